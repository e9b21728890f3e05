/-! PloughWills -/
set_option maxRecDepth 100000
def RX1 : String := "PloughWills"
def TX1 : u_T := fun k => match k with
  | 0 => ("PloughWills", "will", "LPloughWills$Will;", true)
  | 1 => ("PloughWills", "tried", "LPloughWills$Will;", true)
  | 2 => ("PloughWills", "saved", "LPloughWills$Will;", true)
  | 3 => ("PloughWills", "hasSaved", "Z", false)
  | 4 => ("PloughWills", "kept", "Ljava/util/ArrayDeque;", true)
  | 5 => ("PloughWills", "spare", "Ljava/util/ArrayDeque;", true)
  | 6 => ("PloughWills", "walk", "LPloughWills$Walk;", true)
  | 7 => ("PloughWills", "path", "LPloughWills$Path;", true)
  | 8 => ("PloughWills", "nesting", "LPloughWills$Nesting;", true)
  | 9 => ("PloughWills", "buffer", "Ljava/lang/StringBuilder;", true)
  | 10 => ("PloughWills", "line", "Ljava/lang/StringBuilder;", true)
  | 11 => ("PloughWills", "reader", "LPloughWills$Reader;", true)
  | 12 => ("PloughWills", "fault", "I", false)
  | 13 => ("PloughWills", "refused", "I", false)
  | _ => ("PloughWills", "detail", "I", false)
def tyX1 : Nat → FieldType := fun k => match k with
  | 0 => .object "PloughWills$Will"
  | 1 => .object "PloughWills$Will"
  | 2 => .object "PloughWills$Will"
  | 3 => .boolean
  | 4 => .object "java/util/ArrayDeque"
  | 5 => .object "java/util/ArrayDeque"
  | 6 => .object "PloughWills$Walk"
  | 7 => .object "PloughWills$Path"
  | 8 => .object "PloughWills$Nesting"
  | 9 => .object "java/lang/StringBuilder"
  | 10 => .object "java/lang/StringBuilder"
  | 11 => .object "PloughWills$Reader"
  | 12 => .int
  | 13 => .int
  | _ => .int
abbrev wsX10 : List Cond := u_ws RX1 TX1 15
set_option maxRecDepth 100000 in
theorem nmX1 : ∀ a, a < 15 → ∀ b, b < 15 → a ≠ b → (TX1 a).2.1 ≠ (TX1 b).2.1 := by decide +kernel
set_option maxRecDepth 100000 in
theorem tyX1_ok : ∀ k, k < 15 → parseFieldDescriptor (TX1 k).2.2.1 = some (tyX1 k) := by decide +kernel
abbrev cX1_init : ByteArray := prog_1_method_5_code
def yX1_init : MethodName := ⟨RX1, "<init>", "()V"⟩
def dkwX1_init_7 : List UInt8 := [167, 255, 233, 177]
abbrev dktX1_init_7 : List UInt8 := dkwX1_init_7 ++ []
def dkwX1_init_6 : List UInt8 := [60, 27, 16, 8, 162, 0, 23, 42, 180, 0, 45, 187, 0, 25, 89, 183, 0, 27, 182, 0, 92, 132, 1, 1]
abbrev dktX1_init_6 : List UInt8 := dkwX1_init_6 ++ dktX1_init_7
def dkwX1_init_5 : List UInt8 := [181, 0, 76, 42, 187, 0, 79, 89, 42, 180, 0, 72, 183, 0, 81, 181, 0, 84, 42, 2, 181, 0, 88, 3]
abbrev dktX1_init_5 : List UInt8 := dkwX1_init_5 ++ dktX1_init_6
def dkwX1_init_4 : List UInt8 := [181, 0, 65, 42, 187, 0, 69, 89, 183, 0, 71, 181, 0, 72, 42, 187, 0, 69, 89, 183, 0, 71]
abbrev dktX1_init_4 : List UInt8 := dkwX1_init_4 ++ dktX1_init_5
def dkwX1_init_3 : List UInt8 := [181, 0, 51, 42, 187, 0, 55, 89, 183, 0, 57, 181, 0, 58, 42, 187, 0, 62, 89, 183, 0, 64]
abbrev dktX1_init_3 : List UInt8 := dkwX1_init_3 ++ dktX1_init_4
def dkwX1_init_2 : List UInt8 := [181, 0, 41, 42, 187, 0, 38, 89, 183, 0, 40, 181, 0, 45, 42, 187, 0, 48, 89, 183, 0, 50]
abbrev dktX1_init_2 : List UInt8 := dkwX1_init_2 ++ dktX1_init_3
def dkwX1_init_1 : List UInt8 := [181, 0, 32, 42, 187, 0, 25, 89, 183, 0, 27, 181, 0, 35, 42, 187, 0, 38, 89, 183, 0, 40]
abbrev dktX1_init_1 : List UInt8 := dkwX1_init_1 ++ dktX1_init_2
def dkwX1_init_0 : List UInt8 := [42, 183, 0, 20, 42, 187, 0, 25, 89, 183, 0, 27, 181, 0, 28, 42, 187, 0, 25, 89, 183, 0, 27]
abbrev dktX1_init_0 : List UInt8 := dkwX1_init_0 ++ dktX1_init_1
theorem dksX1_init_0 : cX1_init.data.toList.drop 0 = dktX1_init_0 := by decide +kernel
theorem dksX1_init_1 : cX1_init.data.toList.drop 23 = dktX1_init_1 := dk_seg dksX1_init_0 23 rfl rfl
theorem dksX1_init_2 : cX1_init.data.toList.drop 45 = dktX1_init_2 := dk_seg dksX1_init_1 22 rfl rfl
theorem dksX1_init_3 : cX1_init.data.toList.drop 67 = dktX1_init_3 := dk_seg dksX1_init_2 22 rfl rfl
theorem dksX1_init_4 : cX1_init.data.toList.drop 89 = dktX1_init_4 := dk_seg dksX1_init_3 22 rfl rfl
theorem dksX1_init_5 : cX1_init.data.toList.drop 111 = dktX1_init_5 := dk_seg dksX1_init_4 22 rfl rfl
theorem dksX1_init_6 : cX1_init.data.toList.drop 135 = dktX1_init_6 := dk_seg dksX1_init_5 24 rfl rfl
theorem dksX1_init_7 : cX1_init.data.toList.drop 159 = dktX1_init_7 := dk_seg dksX1_init_6 24 rfl rfl
theorem dX1_init_0 : decode cX1_init 0 = .ok (.aload_n 0, 1) := dk_42 (dk_at dksX1_init_0 0 rfl rfl)
theorem dX1_init_1 : decode cX1_init 1 = .ok (.invokespecial 20, 3) := dk_183 0 20 (dk_at dksX1_init_0 1 rfl rfl)
theorem dX1_init_4 : decode cX1_init 4 = .ok (.aload_n 0, 1) := dk_42 (dk_at dksX1_init_0 4 rfl rfl)
theorem dX1_init_5 : decode cX1_init 5 = .ok (.new 25, 3) := dk_187 0 25 (dk_at dksX1_init_0 5 rfl rfl)
theorem dX1_init_8 : decode cX1_init 8 = .ok (.dup, 1) := dk_89 (dk_at dksX1_init_0 8 rfl rfl)
theorem dX1_init_9 : decode cX1_init 9 = .ok (.invokespecial 27, 3) := dk_183 0 27 (dk_at dksX1_init_0 9 rfl rfl)
theorem dX1_init_12 : decode cX1_init 12 = .ok (.putfield 28, 3) := dk_181 0 28 (dk_at dksX1_init_0 12 rfl rfl)
theorem dX1_init_15 : decode cX1_init 15 = .ok (.aload_n 0, 1) := dk_42 (dk_at dksX1_init_0 15 rfl rfl)
theorem dX1_init_16 : decode cX1_init 16 = .ok (.new 25, 3) := dk_187 0 25 (dk_at dksX1_init_0 16 rfl rfl)
theorem dX1_init_19 : decode cX1_init 19 = .ok (.dup, 1) := dk_89 (dk_at dksX1_init_0 19 rfl rfl)
theorem dX1_init_20 : decode cX1_init 20 = .ok (.invokespecial 27, 3) := dk_183 0 27 (dk_at dksX1_init_0 20 rfl rfl)
theorem dX1_init_23 : decode cX1_init 23 = .ok (.putfield 32, 3) := dk_181 0 32 (dk_at dksX1_init_1 0 rfl rfl)
theorem dX1_init_26 : decode cX1_init 26 = .ok (.aload_n 0, 1) := dk_42 (dk_at dksX1_init_1 3 rfl rfl)
theorem dX1_init_27 : decode cX1_init 27 = .ok (.new 25, 3) := dk_187 0 25 (dk_at dksX1_init_1 4 rfl rfl)
theorem dX1_init_30 : decode cX1_init 30 = .ok (.dup, 1) := dk_89 (dk_at dksX1_init_1 7 rfl rfl)
theorem dX1_init_31 : decode cX1_init 31 = .ok (.invokespecial 27, 3) := dk_183 0 27 (dk_at dksX1_init_1 8 rfl rfl)
theorem dX1_init_34 : decode cX1_init 34 = .ok (.putfield 35, 3) := dk_181 0 35 (dk_at dksX1_init_1 11 rfl rfl)
theorem dX1_init_37 : decode cX1_init 37 = .ok (.aload_n 0, 1) := dk_42 (dk_at dksX1_init_1 14 rfl rfl)
theorem dX1_init_38 : decode cX1_init 38 = .ok (.new 38, 3) := dk_187 0 38 (dk_at dksX1_init_1 15 rfl rfl)
theorem dX1_init_41 : decode cX1_init 41 = .ok (.dup, 1) := dk_89 (dk_at dksX1_init_1 18 rfl rfl)
theorem dX1_init_42 : decode cX1_init 42 = .ok (.invokespecial 40, 3) := dk_183 0 40 (dk_at dksX1_init_1 19 rfl rfl)
theorem dX1_init_45 : decode cX1_init 45 = .ok (.putfield 41, 3) := dk_181 0 41 (dk_at dksX1_init_2 0 rfl rfl)
theorem dX1_init_48 : decode cX1_init 48 = .ok (.aload_n 0, 1) := dk_42 (dk_at dksX1_init_2 3 rfl rfl)
theorem dX1_init_49 : decode cX1_init 49 = .ok (.new 38, 3) := dk_187 0 38 (dk_at dksX1_init_2 4 rfl rfl)
theorem dX1_init_52 : decode cX1_init 52 = .ok (.dup, 1) := dk_89 (dk_at dksX1_init_2 7 rfl rfl)
theorem dX1_init_53 : decode cX1_init 53 = .ok (.invokespecial 40, 3) := dk_183 0 40 (dk_at dksX1_init_2 8 rfl rfl)
theorem dX1_init_56 : decode cX1_init 56 = .ok (.putfield 45, 3) := dk_181 0 45 (dk_at dksX1_init_2 11 rfl rfl)
theorem dX1_init_59 : decode cX1_init 59 = .ok (.aload_n 0, 1) := dk_42 (dk_at dksX1_init_2 14 rfl rfl)
theorem dX1_init_60 : decode cX1_init 60 = .ok (.new 48, 3) := dk_187 0 48 (dk_at dksX1_init_2 15 rfl rfl)
theorem dX1_init_63 : decode cX1_init 63 = .ok (.dup, 1) := dk_89 (dk_at dksX1_init_2 18 rfl rfl)
theorem dX1_init_64 : decode cX1_init 64 = .ok (.invokespecial 50, 3) := dk_183 0 50 (dk_at dksX1_init_2 19 rfl rfl)
theorem dX1_init_67 : decode cX1_init 67 = .ok (.putfield 51, 3) := dk_181 0 51 (dk_at dksX1_init_3 0 rfl rfl)
theorem dX1_init_70 : decode cX1_init 70 = .ok (.aload_n 0, 1) := dk_42 (dk_at dksX1_init_3 3 rfl rfl)
theorem dX1_init_71 : decode cX1_init 71 = .ok (.new 55, 3) := dk_187 0 55 (dk_at dksX1_init_3 4 rfl rfl)
theorem dX1_init_74 : decode cX1_init 74 = .ok (.dup, 1) := dk_89 (dk_at dksX1_init_3 7 rfl rfl)
theorem dX1_init_75 : decode cX1_init 75 = .ok (.invokespecial 57, 3) := dk_183 0 57 (dk_at dksX1_init_3 8 rfl rfl)
theorem dX1_init_78 : decode cX1_init 78 = .ok (.putfield 58, 3) := dk_181 0 58 (dk_at dksX1_init_3 11 rfl rfl)
theorem dX1_init_81 : decode cX1_init 81 = .ok (.aload_n 0, 1) := dk_42 (dk_at dksX1_init_3 14 rfl rfl)
theorem dX1_init_82 : decode cX1_init 82 = .ok (.new 62, 3) := dk_187 0 62 (dk_at dksX1_init_3 15 rfl rfl)
theorem dX1_init_85 : decode cX1_init 85 = .ok (.dup, 1) := dk_89 (dk_at dksX1_init_3 18 rfl rfl)
theorem dX1_init_86 : decode cX1_init 86 = .ok (.invokespecial 64, 3) := dk_183 0 64 (dk_at dksX1_init_3 19 rfl rfl)
theorem dX1_init_89 : decode cX1_init 89 = .ok (.putfield 65, 3) := dk_181 0 65 (dk_at dksX1_init_4 0 rfl rfl)
theorem dX1_init_92 : decode cX1_init 92 = .ok (.aload_n 0, 1) := dk_42 (dk_at dksX1_init_4 3 rfl rfl)
theorem dX1_init_93 : decode cX1_init 93 = .ok (.new 69, 3) := dk_187 0 69 (dk_at dksX1_init_4 4 rfl rfl)
theorem dX1_init_96 : decode cX1_init 96 = .ok (.dup, 1) := dk_89 (dk_at dksX1_init_4 7 rfl rfl)
theorem dX1_init_97 : decode cX1_init 97 = .ok (.invokespecial 71, 3) := dk_183 0 71 (dk_at dksX1_init_4 8 rfl rfl)
theorem dX1_init_100 : decode cX1_init 100 = .ok (.putfield 72, 3) := dk_181 0 72 (dk_at dksX1_init_4 11 rfl rfl)
theorem dX1_init_103 : decode cX1_init 103 = .ok (.aload_n 0, 1) := dk_42 (dk_at dksX1_init_4 14 rfl rfl)
theorem dX1_init_104 : decode cX1_init 104 = .ok (.new 69, 3) := dk_187 0 69 (dk_at dksX1_init_4 15 rfl rfl)
theorem dX1_init_107 : decode cX1_init 107 = .ok (.dup, 1) := dk_89 (dk_at dksX1_init_4 18 rfl rfl)
theorem dX1_init_108 : decode cX1_init 108 = .ok (.invokespecial 71, 3) := dk_183 0 71 (dk_at dksX1_init_4 19 rfl rfl)
theorem dX1_init_111 : decode cX1_init 111 = .ok (.putfield 76, 3) := dk_181 0 76 (dk_at dksX1_init_5 0 rfl rfl)
theorem dX1_init_114 : decode cX1_init 114 = .ok (.aload_n 0, 1) := dk_42 (dk_at dksX1_init_5 3 rfl rfl)
theorem dX1_init_115 : decode cX1_init 115 = .ok (.new 79, 3) := dk_187 0 79 (dk_at dksX1_init_5 4 rfl rfl)
theorem dX1_init_118 : decode cX1_init 118 = .ok (.dup, 1) := dk_89 (dk_at dksX1_init_5 7 rfl rfl)
theorem dX1_init_119 : decode cX1_init 119 = .ok (.aload_n 0, 1) := dk_42 (dk_at dksX1_init_5 8 rfl rfl)
theorem dX1_init_120 : decode cX1_init 120 = .ok (.getfield 72, 3) := dk_180 0 72 (dk_at dksX1_init_5 9 rfl rfl)
theorem dX1_init_123 : decode cX1_init 123 = .ok (.invokespecial 81, 3) := dk_183 0 81 (dk_at dksX1_init_5 12 rfl rfl)
theorem dX1_init_126 : decode cX1_init 126 = .ok (.putfield 84, 3) := dk_181 0 84 (dk_at dksX1_init_5 15 rfl rfl)
theorem dX1_init_129 : decode cX1_init 129 = .ok (.aload_n 0, 1) := dk_42 (dk_at dksX1_init_5 18 rfl rfl)
theorem dX1_init_130 : decode cX1_init 130 = .ok (.iconst (-1), 1) := dk_2 (dk_at dksX1_init_5 19 rfl rfl)
theorem dX1_init_131 : decode cX1_init 131 = .ok (.putfield 88, 3) := dk_181 0 88 (dk_at dksX1_init_5 20 rfl rfl)
theorem dX1_init_134 : decode cX1_init 134 = .ok (.iconst 0, 1) := dk_3 (dk_at dksX1_init_5 23 rfl rfl)
theorem dX1_init_135 : decode cX1_init 135 = .ok (.istore_n 1, 1) := dk_60 (dk_at dksX1_init_6 0 rfl rfl)
theorem dX1_init_136 : decode cX1_init 136 = .ok (.iload_n 1, 1) := dk_27 (dk_at dksX1_init_6 1 rfl rfl)
theorem dX1_init_137 : decode cX1_init 137 = .ok (.bipush 8, 2) := dk_16 8 (dk_at dksX1_init_6 2 rfl rfl)
theorem dX1_init_139 : decode cX1_init 139 = .ok (.if_icmp .ge 23, 3) := dk_162 0 23 (dk_at dksX1_init_6 4 rfl rfl)
theorem dX1_init_142 : decode cX1_init 142 = .ok (.aload_n 0, 1) := dk_42 (dk_at dksX1_init_6 7 rfl rfl)
theorem dX1_init_143 : decode cX1_init 143 = .ok (.getfield 45, 3) := dk_180 0 45 (dk_at dksX1_init_6 8 rfl rfl)
theorem dX1_init_146 : decode cX1_init 146 = .ok (.new 25, 3) := dk_187 0 25 (dk_at dksX1_init_6 11 rfl rfl)
theorem dX1_init_149 : decode cX1_init 149 = .ok (.dup, 1) := dk_89 (dk_at dksX1_init_6 14 rfl rfl)
theorem dX1_init_150 : decode cX1_init 150 = .ok (.invokespecial 27, 3) := dk_183 0 27 (dk_at dksX1_init_6 15 rfl rfl)
theorem dX1_init_153 : decode cX1_init 153 = .ok (.invokevirtual 92, 3) := dk_182 0 92 (dk_at dksX1_init_6 18 rfl rfl)
theorem dX1_init_156 : decode cX1_init 156 = .ok (.iinc 1 1, 3) := dk_132 1 1 (dk_at dksX1_init_6 21 rfl rfl)
theorem dX1_init_159 : decode cX1_init 159 = .ok (.goto (-23), 3) := dk_167 255 233 (dk_at dksX1_init_7 0 rfl rfl)
theorem dX1_init_162 : decode cX1_init 162 = .ok (.return_, 1) := dk_177 (dk_at dksX1_init_7 3 rfl rfl)
abbrev cX1_chests : ByteArray := prog_1_method_4_code
def yX1_chests : MethodName := ⟨RX1, "chests", "()[[LPloughWills$Good;"⟩
def dkwX1_chests_1 : List UInt8 := [189, 0, 13, 83, 42, 176]
abbrev dktX1_chests_1 : List UInt8 := dkwX1_chests_1 ++ []
def dkwX1_chests_0 : List UInt8 := [6, 189, 0, 18, 75, 42, 3, 7, 189, 0, 7, 83, 42, 4, 7, 189, 0, 10, 83, 42, 5, 7]
abbrev dktX1_chests_0 : List UInt8 := dkwX1_chests_0 ++ dktX1_chests_1
theorem dksX1_chests_0 : cX1_chests.data.toList.drop 0 = dktX1_chests_0 := by decide +kernel
theorem dksX1_chests_1 : cX1_chests.data.toList.drop 22 = dktX1_chests_1 := dk_seg dksX1_chests_0 22 rfl rfl
theorem dX1_chests_0 : decode cX1_chests 0 = .ok (.iconst 3, 1) := dk_6 (dk_at dksX1_chests_0 0 rfl rfl)
theorem dX1_chests_1 : decode cX1_chests 1 = .ok (.anewarray 18, 3) := dk_189 0 18 (dk_at dksX1_chests_0 1 rfl rfl)
theorem dX1_chests_4 : decode cX1_chests 4 = .ok (.astore_n 0, 1) := dk_75 (dk_at dksX1_chests_0 4 rfl rfl)
theorem dX1_chests_5 : decode cX1_chests 5 = .ok (.aload_n 0, 1) := dk_42 (dk_at dksX1_chests_0 5 rfl rfl)
theorem dX1_chests_6 : decode cX1_chests 6 = .ok (.iconst 0, 1) := dk_3 (dk_at dksX1_chests_0 6 rfl rfl)
theorem dX1_chests_7 : decode cX1_chests 7 = .ok (.iconst 4, 1) := dk_7 (dk_at dksX1_chests_0 7 rfl rfl)
theorem dX1_chests_8 : decode cX1_chests 8 = .ok (.anewarray 7, 3) := dk_189 0 7 (dk_at dksX1_chests_0 8 rfl rfl)
theorem dX1_chests_11 : decode cX1_chests 11 = .ok (.aastore, 1) := dk_83 (dk_at dksX1_chests_0 11 rfl rfl)
theorem dX1_chests_12 : decode cX1_chests 12 = .ok (.aload_n 0, 1) := dk_42 (dk_at dksX1_chests_0 12 rfl rfl)
theorem dX1_chests_13 : decode cX1_chests 13 = .ok (.iconst 1, 1) := dk_4 (dk_at dksX1_chests_0 13 rfl rfl)
theorem dX1_chests_14 : decode cX1_chests 14 = .ok (.iconst 4, 1) := dk_7 (dk_at dksX1_chests_0 14 rfl rfl)
theorem dX1_chests_15 : decode cX1_chests 15 = .ok (.anewarray 10, 3) := dk_189 0 10 (dk_at dksX1_chests_0 15 rfl rfl)
theorem dX1_chests_18 : decode cX1_chests 18 = .ok (.aastore, 1) := dk_83 (dk_at dksX1_chests_0 18 rfl rfl)
theorem dX1_chests_19 : decode cX1_chests 19 = .ok (.aload_n 0, 1) := dk_42 (dk_at dksX1_chests_0 19 rfl rfl)
theorem dX1_chests_20 : decode cX1_chests 20 = .ok (.iconst 2, 1) := dk_5 (dk_at dksX1_chests_0 20 rfl rfl)
theorem dX1_chests_21 : decode cX1_chests 21 = .ok (.iconst 4, 1) := dk_7 (dk_at dksX1_chests_0 21 rfl rfl)
theorem dX1_chests_22 : decode cX1_chests 22 = .ok (.anewarray 13, 3) := dk_189 0 13 (dk_at dksX1_chests_1 0 rfl rfl)
theorem dX1_chests_25 : decode cX1_chests 25 = .ok (.aastore, 1) := dk_83 (dk_at dksX1_chests_1 3 rfl rfl)
theorem dX1_chests_26 : decode cX1_chests 26 = .ok (.aload_n 0, 1) := dk_42 (dk_at dksX1_chests_1 4 rfl rfl)
theorem dX1_chests_27 : decode cX1_chests 27 = .ok (.areturn, 1) := dk_176 (dk_at dksX1_chests_1 5 rfl rfl)
abbrev cX1_isSound : ByteArray := prog_1_method_34_code
def yX1_isSound : MethodName := ⟨RX1, "isSound", "(Z)Z"⟩
def dkwX1_isSound_1 : List UInt8 := [180, 0, 51, 180, 1, 16, 154, 0, 7, 4, 167, 0, 4, 3, 172]
abbrev dktX1_isSound_1 : List UInt8 := dkwX1_isSound_1 ++ []
def dkwX1_isSound_0 : List UInt8 := [27, 153, 0, 8, 42, 182, 1, 34, 172, 42, 180, 0, 51, 42, 180, 0, 28, 2, 182, 1, 12, 42]
abbrev dktX1_isSound_0 : List UInt8 := dkwX1_isSound_0 ++ dktX1_isSound_1
theorem dksX1_isSound_0 : cX1_isSound.data.toList.drop 0 = dktX1_isSound_0 := by decide +kernel
theorem dksX1_isSound_1 : cX1_isSound.data.toList.drop 22 = dktX1_isSound_1 := dk_seg dksX1_isSound_0 22 rfl rfl
theorem dX1_isSound_0 : decode cX1_isSound 0 = .ok (.iload_n 1, 1) := dk_27 (dk_at dksX1_isSound_0 0 rfl rfl)
theorem dX1_isSound_1 : decode cX1_isSound 1 = .ok (.ifCond .eq 8, 3) := dk_153 0 8 (dk_at dksX1_isSound_0 1 rfl rfl)
theorem dX1_isSound_4 : decode cX1_isSound 4 = .ok (.aload_n 0, 1) := dk_42 (dk_at dksX1_isSound_0 4 rfl rfl)
theorem dX1_isSound_5 : decode cX1_isSound 5 = .ok (.invokevirtual 290, 3) := dk_182 1 34 (dk_at dksX1_isSound_0 5 rfl rfl)
theorem dX1_isSound_8 : decode cX1_isSound 8 = .ok (.ireturn, 1) := dk_172 (dk_at dksX1_isSound_0 8 rfl rfl)
theorem dX1_isSound_9 : decode cX1_isSound 9 = .ok (.aload_n 0, 1) := dk_42 (dk_at dksX1_isSound_0 9 rfl rfl)
theorem dX1_isSound_10 : decode cX1_isSound 10 = .ok (.getfield 51, 3) := dk_180 0 51 (dk_at dksX1_isSound_0 10 rfl rfl)
theorem dX1_isSound_13 : decode cX1_isSound 13 = .ok (.aload_n 0, 1) := dk_42 (dk_at dksX1_isSound_0 13 rfl rfl)
theorem dX1_isSound_14 : decode cX1_isSound 14 = .ok (.getfield 28, 3) := dk_180 0 28 (dk_at dksX1_isSound_0 14 rfl rfl)
theorem dX1_isSound_17 : decode cX1_isSound 17 = .ok (.iconst (-1), 1) := dk_2 (dk_at dksX1_isSound_0 17 rfl rfl)
theorem dX1_isSound_18 : decode cX1_isSound 18 = .ok (.invokevirtual 268, 3) := dk_182 1 12 (dk_at dksX1_isSound_0 18 rfl rfl)
theorem dX1_isSound_21 : decode cX1_isSound 21 = .ok (.aload_n 0, 1) := dk_42 (dk_at dksX1_isSound_0 21 rfl rfl)
theorem dX1_isSound_22 : decode cX1_isSound 22 = .ok (.getfield 51, 3) := dk_180 0 51 (dk_at dksX1_isSound_1 0 rfl rfl)
theorem dX1_isSound_25 : decode cX1_isSound 25 = .ok (.getfield 272, 3) := dk_180 1 16 (dk_at dksX1_isSound_1 3 rfl rfl)
theorem dX1_isSound_28 : decode cX1_isSound 28 = .ok (.ifCond .ne 7, 3) := dk_154 0 7 (dk_at dksX1_isSound_1 6 rfl rfl)
theorem dX1_isSound_31 : decode cX1_isSound 31 = .ok (.iconst 1, 1) := dk_4 (dk_at dksX1_isSound_1 9 rfl rfl)
theorem dX1_isSound_32 : decode cX1_isSound 32 = .ok (.goto 4, 3) := dk_167 0 4 (dk_at dksX1_isSound_1 10 rfl rfl)
theorem dX1_isSound_35 : decode cX1_isSound 35 = .ok (.iconst 0, 1) := dk_3 (dk_at dksX1_isSound_1 13 rfl rfl)
theorem dX1_isSound_36 : decode cX1_isSound 36 = .ok (.ireturn, 1) := dk_172 (dk_at dksX1_isSound_1 14 rfl rfl)
abbrev cX1_areRight : ByteArray := prog_1_method_33_code
def yX1_areRight : MethodName := ⟨RX1, "areRight", "()Z"⟩
def dkwX1_areRight_3 : List UInt8 := [180, 1, 16, 154, 0, 7, 4, 167, 0, 4, 3, 60, 132, 3, 1, 167, 255, 201, 27, 172]
abbrev dktX1_areRight_3 : List UInt8 := dkwX1_areRight_3 ++ []
def dkwX1_areRight_2 : List UInt8 := [29, 182, 1, 28, 42, 180, 0, 51, 42, 180, 0, 28, 42, 180, 0, 58, 182, 1, 30, 42, 180, 0, 51]
abbrev dktX1_areRight_2 : List UInt8 := dkwX1_areRight_2 ++ dktX1_areRight_3
def dkwX1_areRight_1 : List UInt8 := [167, 0, 4, 3, 61, 3, 62, 29, 28, 162, 0, 56, 27, 153, 0, 52, 42, 180, 0, 58, 42, 180, 0, 28]
abbrev dktX1_areRight_1 : List UInt8 := dkwX1_areRight_1 ++ dktX1_areRight_2
def dkwX1_areRight_0 : List UInt8 := [42, 182, 1, 21, 60, 27, 153, 0, 21, 42, 180, 0, 28, 3, 42, 180, 0, 28, 180, 0, 237, 184, 1, 24]
abbrev dktX1_areRight_0 : List UInt8 := dkwX1_areRight_0 ++ dktX1_areRight_1
theorem dksX1_areRight_0 : cX1_areRight.data.toList.drop 0 = dktX1_areRight_0 := by decide +kernel
theorem dksX1_areRight_1 : cX1_areRight.data.toList.drop 24 = dktX1_areRight_1 := dk_seg dksX1_areRight_0 24 rfl rfl
theorem dksX1_areRight_2 : cX1_areRight.data.toList.drop 48 = dktX1_areRight_2 := dk_seg dksX1_areRight_1 24 rfl rfl
theorem dksX1_areRight_3 : cX1_areRight.data.toList.drop 71 = dktX1_areRight_3 := dk_seg dksX1_areRight_2 23 rfl rfl
theorem dX1_areRight_0 : decode cX1_areRight 0 = .ok (.aload_n 0, 1) := dk_42 (dk_at dksX1_areRight_0 0 rfl rfl)
theorem dX1_areRight_1 : decode cX1_areRight 1 = .ok (.invokevirtual 277, 3) := dk_182 1 21 (dk_at dksX1_areRight_0 1 rfl rfl)
theorem dX1_areRight_4 : decode cX1_areRight 4 = .ok (.istore_n 1, 1) := dk_60 (dk_at dksX1_areRight_0 4 rfl rfl)
theorem dX1_areRight_5 : decode cX1_areRight 5 = .ok (.iload_n 1, 1) := dk_27 (dk_at dksX1_areRight_0 5 rfl rfl)
theorem dX1_areRight_6 : decode cX1_areRight 6 = .ok (.ifCond .eq 21, 3) := dk_153 0 21 (dk_at dksX1_areRight_0 6 rfl rfl)
theorem dX1_areRight_9 : decode cX1_areRight 9 = .ok (.aload_n 0, 1) := dk_42 (dk_at dksX1_areRight_0 9 rfl rfl)
theorem dX1_areRight_10 : decode cX1_areRight 10 = .ok (.getfield 28, 3) := dk_180 0 28 (dk_at dksX1_areRight_0 10 rfl rfl)
theorem dX1_areRight_13 : decode cX1_areRight 13 = .ok (.iconst 0, 1) := dk_3 (dk_at dksX1_areRight_0 13 rfl rfl)
theorem dX1_areRight_14 : decode cX1_areRight 14 = .ok (.aload_n 0, 1) := dk_42 (dk_at dksX1_areRight_0 14 rfl rfl)
theorem dX1_areRight_15 : decode cX1_areRight 15 = .ok (.getfield 28, 3) := dk_180 0 28 (dk_at dksX1_areRight_0 15 rfl rfl)
theorem dX1_areRight_18 : decode cX1_areRight 18 = .ok (.getfield 237, 3) := dk_180 0 237 (dk_at dksX1_areRight_0 18 rfl rfl)
theorem dX1_areRight_21 : decode cX1_areRight 21 = .ok (.invokestatic 280, 3) := dk_184 1 24 (dk_at dksX1_areRight_0 21 rfl rfl)
theorem dX1_areRight_24 : decode cX1_areRight 24 = .ok (.goto 4, 3) := dk_167 0 4 (dk_at dksX1_areRight_1 0 rfl rfl)
theorem dX1_areRight_27 : decode cX1_areRight 27 = .ok (.iconst 0, 1) := dk_3 (dk_at dksX1_areRight_1 3 rfl rfl)
theorem dX1_areRight_28 : decode cX1_areRight 28 = .ok (.istore_n 2, 1) := dk_61 (dk_at dksX1_areRight_1 4 rfl rfl)
theorem dX1_areRight_29 : decode cX1_areRight 29 = .ok (.iconst 0, 1) := dk_3 (dk_at dksX1_areRight_1 5 rfl rfl)
theorem dX1_areRight_30 : decode cX1_areRight 30 = .ok (.istore_n 3, 1) := dk_62 (dk_at dksX1_areRight_1 6 rfl rfl)
theorem dX1_areRight_31 : decode cX1_areRight 31 = .ok (.iload_n 3, 1) := dk_29 (dk_at dksX1_areRight_1 7 rfl rfl)
theorem dX1_areRight_32 : decode cX1_areRight 32 = .ok (.iload_n 2, 1) := dk_28 (dk_at dksX1_areRight_1 8 rfl rfl)
theorem dX1_areRight_33 : decode cX1_areRight 33 = .ok (.if_icmp .ge 56, 3) := dk_162 0 56 (dk_at dksX1_areRight_1 9 rfl rfl)
theorem dX1_areRight_36 : decode cX1_areRight 36 = .ok (.iload_n 1, 1) := dk_27 (dk_at dksX1_areRight_1 12 rfl rfl)
theorem dX1_areRight_37 : decode cX1_areRight 37 = .ok (.ifCond .eq 52, 3) := dk_153 0 52 (dk_at dksX1_areRight_1 13 rfl rfl)
theorem dX1_areRight_40 : decode cX1_areRight 40 = .ok (.aload_n 0, 1) := dk_42 (dk_at dksX1_areRight_1 16 rfl rfl)
theorem dX1_areRight_41 : decode cX1_areRight 41 = .ok (.getfield 58, 3) := dk_180 0 58 (dk_at dksX1_areRight_1 17 rfl rfl)
theorem dX1_areRight_44 : decode cX1_areRight 44 = .ok (.aload_n 0, 1) := dk_42 (dk_at dksX1_areRight_1 20 rfl rfl)
theorem dX1_areRight_45 : decode cX1_areRight 45 = .ok (.getfield 28, 3) := dk_180 0 28 (dk_at dksX1_areRight_1 21 rfl rfl)
theorem dX1_areRight_48 : decode cX1_areRight 48 = .ok (.iload_n 3, 1) := dk_29 (dk_at dksX1_areRight_2 0 rfl rfl)
theorem dX1_areRight_49 : decode cX1_areRight 49 = .ok (.invokevirtual 284, 3) := dk_182 1 28 (dk_at dksX1_areRight_2 1 rfl rfl)
theorem dX1_areRight_52 : decode cX1_areRight 52 = .ok (.aload_n 0, 1) := dk_42 (dk_at dksX1_areRight_2 4 rfl rfl)
theorem dX1_areRight_53 : decode cX1_areRight 53 = .ok (.getfield 51, 3) := dk_180 0 51 (dk_at dksX1_areRight_2 5 rfl rfl)
theorem dX1_areRight_56 : decode cX1_areRight 56 = .ok (.aload_n 0, 1) := dk_42 (dk_at dksX1_areRight_2 8 rfl rfl)
theorem dX1_areRight_57 : decode cX1_areRight 57 = .ok (.getfield 28, 3) := dk_180 0 28 (dk_at dksX1_areRight_2 9 rfl rfl)
theorem dX1_areRight_60 : decode cX1_areRight 60 = .ok (.aload_n 0, 1) := dk_42 (dk_at dksX1_areRight_2 12 rfl rfl)
theorem dX1_areRight_61 : decode cX1_areRight 61 = .ok (.getfield 58, 3) := dk_180 0 58 (dk_at dksX1_areRight_2 13 rfl rfl)
theorem dX1_areRight_64 : decode cX1_areRight 64 = .ok (.invokevirtual 286, 3) := dk_182 1 30 (dk_at dksX1_areRight_2 16 rfl rfl)
theorem dX1_areRight_67 : decode cX1_areRight 67 = .ok (.aload_n 0, 1) := dk_42 (dk_at dksX1_areRight_2 19 rfl rfl)
theorem dX1_areRight_68 : decode cX1_areRight 68 = .ok (.getfield 51, 3) := dk_180 0 51 (dk_at dksX1_areRight_2 20 rfl rfl)
theorem dX1_areRight_71 : decode cX1_areRight 71 = .ok (.getfield 272, 3) := dk_180 1 16 (dk_at dksX1_areRight_3 0 rfl rfl)
theorem dX1_areRight_74 : decode cX1_areRight 74 = .ok (.ifCond .ne 7, 3) := dk_154 0 7 (dk_at dksX1_areRight_3 3 rfl rfl)
theorem dX1_areRight_77 : decode cX1_areRight 77 = .ok (.iconst 1, 1) := dk_4 (dk_at dksX1_areRight_3 6 rfl rfl)
theorem dX1_areRight_78 : decode cX1_areRight 78 = .ok (.goto 4, 3) := dk_167 0 4 (dk_at dksX1_areRight_3 7 rfl rfl)
theorem dX1_areRight_81 : decode cX1_areRight 81 = .ok (.iconst 0, 1) := dk_3 (dk_at dksX1_areRight_3 10 rfl rfl)
theorem dX1_areRight_82 : decode cX1_areRight 82 = .ok (.istore_n 1, 1) := dk_60 (dk_at dksX1_areRight_3 11 rfl rfl)
theorem dX1_areRight_83 : decode cX1_areRight 83 = .ok (.iinc 3 1, 3) := dk_132 3 1 (dk_at dksX1_areRight_3 12 rfl rfl)
theorem dX1_areRight_86 : decode cX1_areRight 86 = .ok (.goto (-55), 3) := dk_167 255 201 (dk_at dksX1_areRight_3 15 rfl rfl)
theorem dX1_areRight_89 : decode cX1_areRight 89 = .ok (.iload_n 1, 1) := dk_27 (dk_at dksX1_areRight_3 18 rfl rfl)
theorem dX1_areRight_90 : decode cX1_areRight 90 = .ok (.ireturn, 1) := dk_172 (dk_at dksX1_areRight_3 19 rfl rfl)
abbrev cX1_isNested : ByteArray := prog_1_method_32_code
def yX1_isNested : MethodName := ⟨RX1, "isNested", "()Z"⟩
def dkwX1_isNested_0 : List UInt8 := [42, 180, 0, 65, 42, 180, 0, 28, 182, 1, 4, 42, 180, 0, 65, 180, 1, 5, 172]
abbrev dktX1_isNested_0 : List UInt8 := dkwX1_isNested_0 ++ []
theorem dksX1_isNested_0 : cX1_isNested.data.toList.drop 0 = dktX1_isNested_0 := by decide +kernel
theorem dX1_isNested_0 : decode cX1_isNested 0 = .ok (.aload_n 0, 1) := dk_42 (dk_at dksX1_isNested_0 0 rfl rfl)
theorem dX1_isNested_1 : decode cX1_isNested 1 = .ok (.getfield 65, 3) := dk_180 0 65 (dk_at dksX1_isNested_0 1 rfl rfl)
theorem dX1_isNested_4 : decode cX1_isNested 4 = .ok (.aload_n 0, 1) := dk_42 (dk_at dksX1_isNested_0 4 rfl rfl)
theorem dX1_isNested_5 : decode cX1_isNested 5 = .ok (.getfield 28, 3) := dk_180 0 28 (dk_at dksX1_isNested_0 5 rfl rfl)
theorem dX1_isNested_8 : decode cX1_isNested 8 = .ok (.invokevirtual 260, 3) := dk_182 1 4 (dk_at dksX1_isNested_0 8 rfl rfl)
theorem dX1_isNested_11 : decode cX1_isNested 11 = .ok (.aload_n 0, 1) := dk_42 (dk_at dksX1_isNested_0 11 rfl rfl)
theorem dX1_isNested_12 : decode cX1_isNested 12 = .ok (.getfield 65, 3) := dk_180 0 65 (dk_at dksX1_isNested_0 12 rfl rfl)
theorem dX1_isNested_15 : decode cX1_isNested 15 = .ok (.getfield 261, 3) := dk_180 1 5 (dk_at dksX1_isNested_0 15 rfl rfl)
theorem dX1_isNested_18 : decode cX1_isNested 18 = .ok (.ireturn, 1) := dk_172 (dk_at dksX1_isNested_0 18 rfl rfl)
abbrev cX1_paths : ByteArray := prog_1_method_37_code
def yX1_paths : MethodName := ⟨RX1, "paths", "()I"⟩
def dkwX1_paths_1 : List UInt8 := [167, 0, 4, 3, 172]
abbrev dktX1_paths_1 : List UInt8 := dkwX1_paths_1 ++ []
def dkwX1_paths_0 : List UInt8 := [42, 182, 1, 21, 153, 0, 21, 42, 180, 0, 28, 3, 42, 180, 0, 28, 180, 0, 237, 184, 1, 24]
abbrev dktX1_paths_0 : List UInt8 := dkwX1_paths_0 ++ dktX1_paths_1
theorem dksX1_paths_0 : cX1_paths.data.toList.drop 0 = dktX1_paths_0 := by decide +kernel
theorem dksX1_paths_1 : cX1_paths.data.toList.drop 22 = dktX1_paths_1 := dk_seg dksX1_paths_0 22 rfl rfl
theorem dX1_paths_0 : decode cX1_paths 0 = .ok (.aload_n 0, 1) := dk_42 (dk_at dksX1_paths_0 0 rfl rfl)
theorem dX1_paths_1 : decode cX1_paths 1 = .ok (.invokevirtual 277, 3) := dk_182 1 21 (dk_at dksX1_paths_0 1 rfl rfl)
theorem dX1_paths_4 : decode cX1_paths 4 = .ok (.ifCond .eq 21, 3) := dk_153 0 21 (dk_at dksX1_paths_0 4 rfl rfl)
theorem dX1_paths_7 : decode cX1_paths 7 = .ok (.aload_n 0, 1) := dk_42 (dk_at dksX1_paths_0 7 rfl rfl)
theorem dX1_paths_8 : decode cX1_paths 8 = .ok (.getfield 28, 3) := dk_180 0 28 (dk_at dksX1_paths_0 8 rfl rfl)
theorem dX1_paths_11 : decode cX1_paths 11 = .ok (.iconst 0, 1) := dk_3 (dk_at dksX1_paths_0 11 rfl rfl)
theorem dX1_paths_12 : decode cX1_paths 12 = .ok (.aload_n 0, 1) := dk_42 (dk_at dksX1_paths_0 12 rfl rfl)
theorem dX1_paths_13 : decode cX1_paths 13 = .ok (.getfield 28, 3) := dk_180 0 28 (dk_at dksX1_paths_0 13 rfl rfl)
theorem dX1_paths_16 : decode cX1_paths 16 = .ok (.getfield 237, 3) := dk_180 0 237 (dk_at dksX1_paths_0 16 rfl rfl)
theorem dX1_paths_19 : decode cX1_paths 19 = .ok (.invokestatic 280, 3) := dk_184 1 24 (dk_at dksX1_paths_0 19 rfl rfl)
theorem dX1_paths_22 : decode cX1_paths 22 = .ok (.goto 4, 3) := dk_167 0 4 (dk_at dksX1_paths_1 0 rfl rfl)
theorem dX1_paths_25 : decode cX1_paths 25 = .ok (.iconst 0, 1) := dk_3 (dk_at dksX1_paths_1 3 rfl rfl)
theorem dX1_paths_26 : decode cX1_paths 26 = .ok (.ireturn, 1) := dk_172 (dk_at dksX1_paths_1 4 rfl rfl)
abbrev cX1_line : ByteArray := prog_1_method_46_code
def yX1_line : MethodName := ⟨RX1, "line", "()I"⟩
def dkwX1_line_1 : List UInt8 := [182, 1, 100, 172]
abbrev dktX1_line_1 : List UInt8 := dkwX1_line_1 ++ []
def dkwX1_line_0 : List UInt8 := [42, 180, 0, 76, 3, 182, 1, 94, 42, 180, 0, 28, 42, 180, 0, 76, 182, 1, 97, 42, 180, 0, 76]
abbrev dktX1_line_0 : List UInt8 := dkwX1_line_0 ++ dktX1_line_1
theorem dksX1_line_0 : cX1_line.data.toList.drop 0 = dktX1_line_0 := by decide +kernel
theorem dksX1_line_1 : cX1_line.data.toList.drop 23 = dktX1_line_1 := dk_seg dksX1_line_0 23 rfl rfl
theorem dX1_line_0 : decode cX1_line 0 = .ok (.aload_n 0, 1) := dk_42 (dk_at dksX1_line_0 0 rfl rfl)
theorem dX1_line_1 : decode cX1_line 1 = .ok (.getfield 76, 3) := dk_180 0 76 (dk_at dksX1_line_0 1 rfl rfl)
theorem dX1_line_4 : decode cX1_line 4 = .ok (.iconst 0, 1) := dk_3 (dk_at dksX1_line_0 4 rfl rfl)
theorem dX1_line_5 : decode cX1_line 5 = .ok (.invokevirtual 350, 3) := dk_182 1 94 (dk_at dksX1_line_0 5 rfl rfl)
theorem dX1_line_8 : decode cX1_line 8 = .ok (.aload_n 0, 1) := dk_42 (dk_at dksX1_line_0 8 rfl rfl)
theorem dX1_line_9 : decode cX1_line 9 = .ok (.getfield 28, 3) := dk_180 0 28 (dk_at dksX1_line_0 9 rfl rfl)
theorem dX1_line_12 : decode cX1_line 12 = .ok (.aload_n 0, 1) := dk_42 (dk_at dksX1_line_0 12 rfl rfl)
theorem dX1_line_13 : decode cX1_line 13 = .ok (.getfield 76, 3) := dk_180 0 76 (dk_at dksX1_line_0 13 rfl rfl)
theorem dX1_line_16 : decode cX1_line 16 = .ok (.invokevirtual 353, 3) := dk_182 1 97 (dk_at dksX1_line_0 16 rfl rfl)
theorem dX1_line_19 : decode cX1_line 19 = .ok (.aload_n 0, 1) := dk_42 (dk_at dksX1_line_0 19 rfl rfl)
theorem dX1_line_20 : decode cX1_line 20 = .ok (.getfield 76, 3) := dk_180 0 76 (dk_at dksX1_line_0 20 rfl rfl)
theorem dX1_line_23 : decode cX1_line 23 = .ok (.invokevirtual 356, 3) := dk_182 1 100 (dk_at dksX1_line_1 0 rfl rfl)
theorem dX1_line_26 : decode cX1_line 26 = .ok (.ireturn, 1) := dk_172 (dk_at dksX1_line_1 3 rfl rfl)
abbrev cX1_in : ByteArray := prog_1_method_1_code
def yX1_in : MethodName := ⟨RX1, "in", "(III)Z"⟩
def dkwX1_in_0 : List UInt8 := [26, 27, 161, 0, 12, 26, 28, 163, 0, 7, 4, 167, 0, 4, 3, 172]
abbrev dktX1_in_0 : List UInt8 := dkwX1_in_0 ++ []
theorem dksX1_in_0 : cX1_in.data.toList.drop 0 = dktX1_in_0 := by decide +kernel
theorem dX1_in_0 : decode cX1_in 0 = .ok (.iload_n 0, 1) := dk_26 (dk_at dksX1_in_0 0 rfl rfl)
theorem dX1_in_1 : decode cX1_in 1 = .ok (.iload_n 1, 1) := dk_27 (dk_at dksX1_in_0 1 rfl rfl)
theorem dX1_in_2 : decode cX1_in 2 = .ok (.if_icmp .lt 12, 3) := dk_161 0 12 (dk_at dksX1_in_0 2 rfl rfl)
theorem dX1_in_5 : decode cX1_in 5 = .ok (.iload_n 0, 1) := dk_26 (dk_at dksX1_in_0 5 rfl rfl)
theorem dX1_in_6 : decode cX1_in 6 = .ok (.iload_n 2, 1) := dk_28 (dk_at dksX1_in_0 6 rfl rfl)
theorem dX1_in_7 : decode cX1_in 7 = .ok (.if_icmp .gt 7, 3) := dk_163 0 7 (dk_at dksX1_in_0 7 rfl rfl)
theorem dX1_in_10 : decode cX1_in 10 = .ok (.iconst 1, 1) := dk_4 (dk_at dksX1_in_0 10 rfl rfl)
theorem dX1_in_11 : decode cX1_in 11 = .ok (.goto 4, 3) := dk_167 0 4 (dk_at dksX1_in_0 11 rfl rfl)
theorem dX1_in_14 : decode cX1_in 14 = .ok (.iconst 0, 1) := dk_3 (dk_at dksX1_in_0 14 rfl rfl)
theorem dX1_in_15 : decode cX1_in 15 = .ok (.ireturn, 1) := dk_172 (dk_at dksX1_in_0 15 rfl rfl)
abbrev cX1_errorPosition : ByteArray := prog_1_method_50_code
def yX1_errorPosition : MethodName := ⟨RX1, "errorPosition", "()I"⟩
theorem dX1_errorPosition_0 : decode cX1_errorPosition 0 = .ok (.aload_n 0, 1) := by decide +kernel
theorem dX1_errorPosition_1 : decode cX1_errorPosition 1 = .ok (.getfield 88, 3) := by decide +kernel
theorem dX1_errorPosition_4 : decode cX1_errorPosition 4 = .ok (.ireturn, 1) := by decide +kernel
abbrev cX1_isWell : ByteArray := prog_1_method_54_code
def yX1_isWell : MethodName := ⟨RX1, "isWell", "()Z"⟩
def dkwX1_isWell_4 : List UInt8 := [182, 1, 82, 160, 0, 7, 4, 167, 0, 4, 3, 172]
abbrev dktX1_isWell_4 : List UInt8 := dkwX1_isWell_4 ++ []
def dkwX1_isWell_3 : List UInt8 := [153, 0, 33, 27, 153, 0, 25, 42, 3, 42, 180, 0, 28, 180, 0, 237, 4, 182, 1, 67, 42, 27, 4]
abbrev dktX1_isWell_3 : List UInt8 := dkwX1_isWell_3 ++ dktX1_isWell_4
def dkwX1_isWell_2 : List UInt8 := [180, 0, 237, 3, 182, 1, 67, 42, 27, 3, 182, 1, 82, 160, 0, 7, 4, 167, 0, 4, 3, 126, 61, 28]
abbrev dktX1_isWell_2 : List UInt8 := dkwX1_isWell_2 ++ dktX1_isWell_3
def dkwX1_isWell_1 : List UInt8 := [182, 1, 142, 153, 0, 7, 4, 167, 0, 4, 3, 61, 28, 27, 153, 0, 25, 42, 3, 42, 180, 0, 28]
abbrev dktX1_isWell_1 : List UInt8 := dkwX1_isWell_1 ++ dktX1_isWell_2
def dkwX1_isWell_0 : List UInt8 := [42, 182, 1, 43, 60, 42, 3, 182, 1, 138, 42, 4, 182, 1, 138, 160, 0, 17, 42, 180, 0, 28]
abbrev dktX1_isWell_0 : List UInt8 := dkwX1_isWell_0 ++ dktX1_isWell_1
theorem dksX1_isWell_0 : cX1_isWell.data.toList.drop 0 = dktX1_isWell_0 := by decide +kernel
theorem dksX1_isWell_1 : cX1_isWell.data.toList.drop 22 = dktX1_isWell_1 := dk_seg dksX1_isWell_0 22 rfl rfl
theorem dksX1_isWell_2 : cX1_isWell.data.toList.drop 45 = dktX1_isWell_2 := dk_seg dksX1_isWell_1 23 rfl rfl
theorem dksX1_isWell_3 : cX1_isWell.data.toList.drop 69 = dktX1_isWell_3 := dk_seg dksX1_isWell_2 24 rfl rfl
theorem dksX1_isWell_4 : cX1_isWell.data.toList.drop 92 = dktX1_isWell_4 := dk_seg dksX1_isWell_3 23 rfl rfl
theorem dX1_isWell_0 : decode cX1_isWell 0 = .ok (.aload_n 0, 1) := dk_42 (dk_at dksX1_isWell_0 0 rfl rfl)
theorem dX1_isWell_1 : decode cX1_isWell 1 = .ok (.invokevirtual 299, 3) := dk_182 1 43 (dk_at dksX1_isWell_0 1 rfl rfl)
theorem dX1_isWell_4 : decode cX1_isWell 4 = .ok (.istore_n 1, 1) := dk_60 (dk_at dksX1_isWell_0 4 rfl rfl)
theorem dX1_isWell_5 : decode cX1_isWell 5 = .ok (.aload_n 0, 1) := dk_42 (dk_at dksX1_isWell_0 5 rfl rfl)
theorem dX1_isWell_6 : decode cX1_isWell 6 = .ok (.iconst 0, 1) := dk_3 (dk_at dksX1_isWell_0 6 rfl rfl)
theorem dX1_isWell_7 : decode cX1_isWell 7 = .ok (.invokevirtual 394, 3) := dk_182 1 138 (dk_at dksX1_isWell_0 7 rfl rfl)
theorem dX1_isWell_10 : decode cX1_isWell 10 = .ok (.aload_n 0, 1) := dk_42 (dk_at dksX1_isWell_0 10 rfl rfl)
theorem dX1_isWell_11 : decode cX1_isWell 11 = .ok (.iconst 1, 1) := dk_4 (dk_at dksX1_isWell_0 11 rfl rfl)
theorem dX1_isWell_12 : decode cX1_isWell 12 = .ok (.invokevirtual 394, 3) := dk_182 1 138 (dk_at dksX1_isWell_0 12 rfl rfl)
theorem dX1_isWell_15 : decode cX1_isWell 15 = .ok (.if_icmp .ne 17, 3) := dk_160 0 17 (dk_at dksX1_isWell_0 15 rfl rfl)
theorem dX1_isWell_18 : decode cX1_isWell 18 = .ok (.aload_n 0, 1) := dk_42 (dk_at dksX1_isWell_0 18 rfl rfl)
theorem dX1_isWell_19 : decode cX1_isWell 19 = .ok (.getfield 28, 3) := dk_180 0 28 (dk_at dksX1_isWell_0 19 rfl rfl)
theorem dX1_isWell_22 : decode cX1_isWell 22 = .ok (.invokevirtual 398, 3) := dk_182 1 142 (dk_at dksX1_isWell_1 0 rfl rfl)
theorem dX1_isWell_25 : decode cX1_isWell 25 = .ok (.ifCond .eq 7, 3) := dk_153 0 7 (dk_at dksX1_isWell_1 3 rfl rfl)
theorem dX1_isWell_28 : decode cX1_isWell 28 = .ok (.iconst 1, 1) := dk_4 (dk_at dksX1_isWell_1 6 rfl rfl)
theorem dX1_isWell_29 : decode cX1_isWell 29 = .ok (.goto 4, 3) := dk_167 0 4 (dk_at dksX1_isWell_1 7 rfl rfl)
theorem dX1_isWell_32 : decode cX1_isWell 32 = .ok (.iconst 0, 1) := dk_3 (dk_at dksX1_isWell_1 10 rfl rfl)
theorem dX1_isWell_33 : decode cX1_isWell 33 = .ok (.istore_n 2, 1) := dk_61 (dk_at dksX1_isWell_1 11 rfl rfl)
theorem dX1_isWell_34 : decode cX1_isWell 34 = .ok (.iload_n 2, 1) := dk_28 (dk_at dksX1_isWell_1 12 rfl rfl)
theorem dX1_isWell_35 : decode cX1_isWell 35 = .ok (.iload_n 1, 1) := dk_27 (dk_at dksX1_isWell_1 13 rfl rfl)
theorem dX1_isWell_36 : decode cX1_isWell 36 = .ok (.ifCond .eq 25, 3) := dk_153 0 25 (dk_at dksX1_isWell_1 14 rfl rfl)
theorem dX1_isWell_39 : decode cX1_isWell 39 = .ok (.aload_n 0, 1) := dk_42 (dk_at dksX1_isWell_1 17 rfl rfl)
theorem dX1_isWell_40 : decode cX1_isWell 40 = .ok (.iconst 0, 1) := dk_3 (dk_at dksX1_isWell_1 18 rfl rfl)
theorem dX1_isWell_41 : decode cX1_isWell 41 = .ok (.aload_n 0, 1) := dk_42 (dk_at dksX1_isWell_1 19 rfl rfl)
theorem dX1_isWell_42 : decode cX1_isWell 42 = .ok (.getfield 28, 3) := dk_180 0 28 (dk_at dksX1_isWell_1 20 rfl rfl)
theorem dX1_isWell_45 : decode cX1_isWell 45 = .ok (.getfield 237, 3) := dk_180 0 237 (dk_at dksX1_isWell_2 0 rfl rfl)
theorem dX1_isWell_48 : decode cX1_isWell 48 = .ok (.iconst 0, 1) := dk_3 (dk_at dksX1_isWell_2 3 rfl rfl)
theorem dX1_isWell_49 : decode cX1_isWell 49 = .ok (.invokevirtual 323, 3) := dk_182 1 67 (dk_at dksX1_isWell_2 4 rfl rfl)
theorem dX1_isWell_52 : decode cX1_isWell 52 = .ok (.aload_n 0, 1) := dk_42 (dk_at dksX1_isWell_2 7 rfl rfl)
theorem dX1_isWell_53 : decode cX1_isWell 53 = .ok (.iload_n 1, 1) := dk_27 (dk_at dksX1_isWell_2 8 rfl rfl)
theorem dX1_isWell_54 : decode cX1_isWell 54 = .ok (.iconst 0, 1) := dk_3 (dk_at dksX1_isWell_2 9 rfl rfl)
theorem dX1_isWell_55 : decode cX1_isWell 55 = .ok (.invokevirtual 338, 3) := dk_182 1 82 (dk_at dksX1_isWell_2 10 rfl rfl)
theorem dX1_isWell_58 : decode cX1_isWell 58 = .ok (.if_icmp .ne 7, 3) := dk_160 0 7 (dk_at dksX1_isWell_2 13 rfl rfl)
theorem dX1_isWell_61 : decode cX1_isWell 61 = .ok (.iconst 1, 1) := dk_4 (dk_at dksX1_isWell_2 16 rfl rfl)
theorem dX1_isWell_62 : decode cX1_isWell 62 = .ok (.goto 4, 3) := dk_167 0 4 (dk_at dksX1_isWell_2 17 rfl rfl)
theorem dX1_isWell_65 : decode cX1_isWell 65 = .ok (.iconst 0, 1) := dk_3 (dk_at dksX1_isWell_2 20 rfl rfl)
theorem dX1_isWell_66 : decode cX1_isWell 66 = .ok (.iand, 1) := dk_126 (dk_at dksX1_isWell_2 21 rfl rfl)
theorem dX1_isWell_67 : decode cX1_isWell 67 = .ok (.istore_n 2, 1) := dk_61 (dk_at dksX1_isWell_2 22 rfl rfl)
theorem dX1_isWell_68 : decode cX1_isWell 68 = .ok (.iload_n 2, 1) := dk_28 (dk_at dksX1_isWell_2 23 rfl rfl)
theorem dX1_isWell_69 : decode cX1_isWell 69 = .ok (.ifCond .eq 33, 3) := dk_153 0 33 (dk_at dksX1_isWell_3 0 rfl rfl)
theorem dX1_isWell_72 : decode cX1_isWell 72 = .ok (.iload_n 1, 1) := dk_27 (dk_at dksX1_isWell_3 3 rfl rfl)
theorem dX1_isWell_73 : decode cX1_isWell 73 = .ok (.ifCond .eq 25, 3) := dk_153 0 25 (dk_at dksX1_isWell_3 4 rfl rfl)
theorem dX1_isWell_76 : decode cX1_isWell 76 = .ok (.aload_n 0, 1) := dk_42 (dk_at dksX1_isWell_3 7 rfl rfl)
theorem dX1_isWell_77 : decode cX1_isWell 77 = .ok (.iconst 0, 1) := dk_3 (dk_at dksX1_isWell_3 8 rfl rfl)
theorem dX1_isWell_78 : decode cX1_isWell 78 = .ok (.aload_n 0, 1) := dk_42 (dk_at dksX1_isWell_3 9 rfl rfl)
theorem dX1_isWell_79 : decode cX1_isWell 79 = .ok (.getfield 28, 3) := dk_180 0 28 (dk_at dksX1_isWell_3 10 rfl rfl)
theorem dX1_isWell_82 : decode cX1_isWell 82 = .ok (.getfield 237, 3) := dk_180 0 237 (dk_at dksX1_isWell_3 13 rfl rfl)
theorem dX1_isWell_85 : decode cX1_isWell 85 = .ok (.iconst 1, 1) := dk_4 (dk_at dksX1_isWell_3 16 rfl rfl)
theorem dX1_isWell_86 : decode cX1_isWell 86 = .ok (.invokevirtual 323, 3) := dk_182 1 67 (dk_at dksX1_isWell_3 17 rfl rfl)
theorem dX1_isWell_89 : decode cX1_isWell 89 = .ok (.aload_n 0, 1) := dk_42 (dk_at dksX1_isWell_3 20 rfl rfl)
theorem dX1_isWell_90 : decode cX1_isWell 90 = .ok (.iload_n 1, 1) := dk_27 (dk_at dksX1_isWell_3 21 rfl rfl)
theorem dX1_isWell_91 : decode cX1_isWell 91 = .ok (.iconst 1, 1) := dk_4 (dk_at dksX1_isWell_3 22 rfl rfl)
theorem dX1_isWell_92 : decode cX1_isWell 92 = .ok (.invokevirtual 338, 3) := dk_182 1 82 (dk_at dksX1_isWell_4 0 rfl rfl)
theorem dX1_isWell_95 : decode cX1_isWell 95 = .ok (.if_icmp .ne 7, 3) := dk_160 0 7 (dk_at dksX1_isWell_4 3 rfl rfl)
theorem dX1_isWell_98 : decode cX1_isWell 98 = .ok (.iconst 1, 1) := dk_4 (dk_at dksX1_isWell_4 6 rfl rfl)
theorem dX1_isWell_99 : decode cX1_isWell 99 = .ok (.goto 4, 3) := dk_167 0 4 (dk_at dksX1_isWell_4 7 rfl rfl)
theorem dX1_isWell_102 : decode cX1_isWell 102 = .ok (.iconst 0, 1) := dk_3 (dk_at dksX1_isWell_4 10 rfl rfl)
theorem dX1_isWell_103 : decode cX1_isWell 103 = .ok (.ireturn, 1) := dk_172 (dk_at dksX1_isWell_4 11 rfl rfl)
abbrev cX1_worthFrom : ByteArray := prog_1_method_41_code
def yX1_worthFrom : MethodName := ⟨RX1, "worthFrom", "(IIZ)I"⟩
def dkwX1_worthFrom_6 : List UInt8 := [21, 4, 172]
abbrev dktX1_worthFrom_6 : List UInt8 := dkwX1_worthFrom_6 ++ []
def dkwX1_worthFrom_5 : List UInt8 := [167, 0, 17, 21, 4, 42, 180, 0, 28, 21, 5, 182, 1, 79, 96, 54, 4, 132, 5, 1, 167, 255, 125]
abbrev dktX1_worthFrom_5 : List UInt8 := dkwX1_worthFrom_5 ++ dktX1_worthFrom_6
def dkwX1_worthFrom_4 : List UInt8 := [21, 9, 184, 1, 71, 167, 0, 10, 21, 8, 21, 9, 184, 1, 76, 96, 54, 4, 21, 7, 54, 5]
abbrev dktX1_worthFrom_4 : List UInt8 := dkwX1_worthFrom_4 ++ dktX1_worthFrom_5
def dkwX1_worthFrom_3 : List UInt8 := [54, 8, 42, 21, 6, 4, 96, 21, 7, 29, 182, 1, 67, 54, 9, 21, 4, 29, 153, 0, 13, 21, 8]
abbrev dktX1_worthFrom_3 : List UInt8 := dkwX1_worthFrom_3 ++ dktX1_worthFrom_4
def dkwX1_worthFrom_2 : List UInt8 := [21, 6, 4, 96, 16, 9, 16, 9, 182, 1, 63, 54, 7, 42, 21, 5, 4, 96, 21, 6, 29, 182, 1, 67]
abbrev dktX1_worthFrom_2 : List UInt8 := dkwX1_worthFrom_2 ++ dktX1_worthFrom_3
def dkwX1_worthFrom_1 : List UInt8 := [160, 0, 96, 42, 180, 0, 28, 21, 5, 4, 96, 16, 8, 16, 8, 182, 1, 63, 54, 6, 42, 180, 0, 28]
abbrev dktX1_worthFrom_1 : List UInt8 := dkwX1_worthFrom_1 ++ dktX1_worthFrom_2
def dkwX1_worthFrom_0 : List UInt8 := [3, 54, 4, 27, 54, 5, 21, 5, 28, 162, 0, 131, 42, 180, 0, 28, 180, 0, 250, 21, 5, 46, 16, 7]
abbrev dktX1_worthFrom_0 : List UInt8 := dkwX1_worthFrom_0 ++ dktX1_worthFrom_1
theorem dksX1_worthFrom_0 : cX1_worthFrom.data.toList.drop 0 = dktX1_worthFrom_0 := by decide +kernel
theorem dksX1_worthFrom_1 : cX1_worthFrom.data.toList.drop 24 = dktX1_worthFrom_1 := dk_seg dksX1_worthFrom_0 24 rfl rfl
theorem dksX1_worthFrom_2 : cX1_worthFrom.data.toList.drop 48 = dktX1_worthFrom_2 := dk_seg dksX1_worthFrom_1 24 rfl rfl
theorem dksX1_worthFrom_3 : cX1_worthFrom.data.toList.drop 72 = dktX1_worthFrom_3 := dk_seg dksX1_worthFrom_2 24 rfl rfl
theorem dksX1_worthFrom_4 : cX1_worthFrom.data.toList.drop 95 = dktX1_worthFrom_4 := dk_seg dksX1_worthFrom_3 23 rfl rfl
theorem dksX1_worthFrom_5 : cX1_worthFrom.data.toList.drop 117 = dktX1_worthFrom_5 := dk_seg dksX1_worthFrom_4 22 rfl rfl
theorem dksX1_worthFrom_6 : cX1_worthFrom.data.toList.drop 140 = dktX1_worthFrom_6 := dk_seg dksX1_worthFrom_5 23 rfl rfl
theorem dX1_worthFrom_0 : decode cX1_worthFrom 0 = .ok (.iconst 0, 1) := dk_3 (dk_at dksX1_worthFrom_0 0 rfl rfl)
theorem dX1_worthFrom_1 : decode cX1_worthFrom 1 = .ok (.istore 4, 2) := dk_54 4 (dk_at dksX1_worthFrom_0 1 rfl rfl)
theorem dX1_worthFrom_3 : decode cX1_worthFrom 3 = .ok (.iload_n 1, 1) := dk_27 (dk_at dksX1_worthFrom_0 3 rfl rfl)
theorem dX1_worthFrom_4 : decode cX1_worthFrom 4 = .ok (.istore 5, 2) := dk_54 5 (dk_at dksX1_worthFrom_0 4 rfl rfl)
theorem dX1_worthFrom_6 : decode cX1_worthFrom 6 = .ok (.iload 5, 2) := dk_21 5 (dk_at dksX1_worthFrom_0 6 rfl rfl)
theorem dX1_worthFrom_8 : decode cX1_worthFrom 8 = .ok (.iload_n 2, 1) := dk_28 (dk_at dksX1_worthFrom_0 8 rfl rfl)
theorem dX1_worthFrom_9 : decode cX1_worthFrom 9 = .ok (.if_icmp .ge 131, 3) := dk_162 0 131 (dk_at dksX1_worthFrom_0 9 rfl rfl)
theorem dX1_worthFrom_12 : decode cX1_worthFrom 12 = .ok (.aload_n 0, 1) := dk_42 (dk_at dksX1_worthFrom_0 12 rfl rfl)
theorem dX1_worthFrom_13 : decode cX1_worthFrom 13 = .ok (.getfield 28, 3) := dk_180 0 28 (dk_at dksX1_worthFrom_0 13 rfl rfl)
theorem dX1_worthFrom_16 : decode cX1_worthFrom 16 = .ok (.getfield 250, 3) := dk_180 0 250 (dk_at dksX1_worthFrom_0 16 rfl rfl)
theorem dX1_worthFrom_19 : decode cX1_worthFrom 19 = .ok (.iload 5, 2) := dk_21 5 (dk_at dksX1_worthFrom_0 19 rfl rfl)
theorem dX1_worthFrom_21 : decode cX1_worthFrom 21 = .ok (.iaload, 1) := dk_46 (dk_at dksX1_worthFrom_0 21 rfl rfl)
theorem dX1_worthFrom_22 : decode cX1_worthFrom 22 = .ok (.bipush 7, 2) := dk_16 7 (dk_at dksX1_worthFrom_0 22 rfl rfl)
theorem dX1_worthFrom_24 : decode cX1_worthFrom 24 = .ok (.if_icmp .ne 96, 3) := dk_160 0 96 (dk_at dksX1_worthFrom_1 0 rfl rfl)
theorem dX1_worthFrom_27 : decode cX1_worthFrom 27 = .ok (.aload_n 0, 1) := dk_42 (dk_at dksX1_worthFrom_1 3 rfl rfl)
theorem dX1_worthFrom_28 : decode cX1_worthFrom 28 = .ok (.getfield 28, 3) := dk_180 0 28 (dk_at dksX1_worthFrom_1 4 rfl rfl)
theorem dX1_worthFrom_31 : decode cX1_worthFrom 31 = .ok (.iload 5, 2) := dk_21 5 (dk_at dksX1_worthFrom_1 7 rfl rfl)
theorem dX1_worthFrom_33 : decode cX1_worthFrom 33 = .ok (.iconst 1, 1) := dk_4 (dk_at dksX1_worthFrom_1 9 rfl rfl)
theorem dX1_worthFrom_34 : decode cX1_worthFrom 34 = .ok (.iadd, 1) := dk_96 (dk_at dksX1_worthFrom_1 10 rfl rfl)
theorem dX1_worthFrom_35 : decode cX1_worthFrom 35 = .ok (.bipush 8, 2) := dk_16 8 (dk_at dksX1_worthFrom_1 11 rfl rfl)
theorem dX1_worthFrom_37 : decode cX1_worthFrom 37 = .ok (.bipush 8, 2) := dk_16 8 (dk_at dksX1_worthFrom_1 13 rfl rfl)
theorem dX1_worthFrom_39 : decode cX1_worthFrom 39 = .ok (.invokevirtual 319, 3) := dk_182 1 63 (dk_at dksX1_worthFrom_1 15 rfl rfl)
theorem dX1_worthFrom_42 : decode cX1_worthFrom 42 = .ok (.istore 6, 2) := dk_54 6 (dk_at dksX1_worthFrom_1 18 rfl rfl)
theorem dX1_worthFrom_44 : decode cX1_worthFrom 44 = .ok (.aload_n 0, 1) := dk_42 (dk_at dksX1_worthFrom_1 20 rfl rfl)
theorem dX1_worthFrom_45 : decode cX1_worthFrom 45 = .ok (.getfield 28, 3) := dk_180 0 28 (dk_at dksX1_worthFrom_1 21 rfl rfl)
theorem dX1_worthFrom_48 : decode cX1_worthFrom 48 = .ok (.iload 6, 2) := dk_21 6 (dk_at dksX1_worthFrom_2 0 rfl rfl)
theorem dX1_worthFrom_50 : decode cX1_worthFrom 50 = .ok (.iconst 1, 1) := dk_4 (dk_at dksX1_worthFrom_2 2 rfl rfl)
theorem dX1_worthFrom_51 : decode cX1_worthFrom 51 = .ok (.iadd, 1) := dk_96 (dk_at dksX1_worthFrom_2 3 rfl rfl)
theorem dX1_worthFrom_52 : decode cX1_worthFrom 52 = .ok (.bipush 9, 2) := dk_16 9 (dk_at dksX1_worthFrom_2 4 rfl rfl)
theorem dX1_worthFrom_54 : decode cX1_worthFrom 54 = .ok (.bipush 9, 2) := dk_16 9 (dk_at dksX1_worthFrom_2 6 rfl rfl)
theorem dX1_worthFrom_56 : decode cX1_worthFrom 56 = .ok (.invokevirtual 319, 3) := dk_182 1 63 (dk_at dksX1_worthFrom_2 8 rfl rfl)
theorem dX1_worthFrom_59 : decode cX1_worthFrom 59 = .ok (.istore 7, 2) := dk_54 7 (dk_at dksX1_worthFrom_2 11 rfl rfl)
theorem dX1_worthFrom_61 : decode cX1_worthFrom 61 = .ok (.aload_n 0, 1) := dk_42 (dk_at dksX1_worthFrom_2 13 rfl rfl)
theorem dX1_worthFrom_62 : decode cX1_worthFrom 62 = .ok (.iload 5, 2) := dk_21 5 (dk_at dksX1_worthFrom_2 14 rfl rfl)
theorem dX1_worthFrom_64 : decode cX1_worthFrom 64 = .ok (.iconst 1, 1) := dk_4 (dk_at dksX1_worthFrom_2 16 rfl rfl)
theorem dX1_worthFrom_65 : decode cX1_worthFrom 65 = .ok (.iadd, 1) := dk_96 (dk_at dksX1_worthFrom_2 17 rfl rfl)
theorem dX1_worthFrom_66 : decode cX1_worthFrom 66 = .ok (.iload 6, 2) := dk_21 6 (dk_at dksX1_worthFrom_2 18 rfl rfl)
theorem dX1_worthFrom_68 : decode cX1_worthFrom 68 = .ok (.iload_n 3, 1) := dk_29 (dk_at dksX1_worthFrom_2 20 rfl rfl)
theorem dX1_worthFrom_69 : decode cX1_worthFrom 69 = .ok (.invokevirtual 323, 3) := dk_182 1 67 (dk_at dksX1_worthFrom_2 21 rfl rfl)
theorem dX1_worthFrom_72 : decode cX1_worthFrom 72 = .ok (.istore 8, 2) := dk_54 8 (dk_at dksX1_worthFrom_3 0 rfl rfl)
theorem dX1_worthFrom_74 : decode cX1_worthFrom 74 = .ok (.aload_n 0, 1) := dk_42 (dk_at dksX1_worthFrom_3 2 rfl rfl)
theorem dX1_worthFrom_75 : decode cX1_worthFrom 75 = .ok (.iload 6, 2) := dk_21 6 (dk_at dksX1_worthFrom_3 3 rfl rfl)
theorem dX1_worthFrom_77 : decode cX1_worthFrom 77 = .ok (.iconst 1, 1) := dk_4 (dk_at dksX1_worthFrom_3 5 rfl rfl)
theorem dX1_worthFrom_78 : decode cX1_worthFrom 78 = .ok (.iadd, 1) := dk_96 (dk_at dksX1_worthFrom_3 6 rfl rfl)
theorem dX1_worthFrom_79 : decode cX1_worthFrom 79 = .ok (.iload 7, 2) := dk_21 7 (dk_at dksX1_worthFrom_3 7 rfl rfl)
theorem dX1_worthFrom_81 : decode cX1_worthFrom 81 = .ok (.iload_n 3, 1) := dk_29 (dk_at dksX1_worthFrom_3 9 rfl rfl)
theorem dX1_worthFrom_82 : decode cX1_worthFrom 82 = .ok (.invokevirtual 323, 3) := dk_182 1 67 (dk_at dksX1_worthFrom_3 10 rfl rfl)
theorem dX1_worthFrom_85 : decode cX1_worthFrom 85 = .ok (.istore 9, 2) := dk_54 9 (dk_at dksX1_worthFrom_3 13 rfl rfl)
theorem dX1_worthFrom_87 : decode cX1_worthFrom 87 = .ok (.iload 4, 2) := dk_21 4 (dk_at dksX1_worthFrom_3 15 rfl rfl)
theorem dX1_worthFrom_89 : decode cX1_worthFrom 89 = .ok (.iload_n 3, 1) := dk_29 (dk_at dksX1_worthFrom_3 17 rfl rfl)
theorem dX1_worthFrom_90 : decode cX1_worthFrom 90 = .ok (.ifCond .eq 13, 3) := dk_153 0 13 (dk_at dksX1_worthFrom_3 18 rfl rfl)
theorem dX1_worthFrom_93 : decode cX1_worthFrom 93 = .ok (.iload 8, 2) := dk_21 8 (dk_at dksX1_worthFrom_3 21 rfl rfl)
theorem dX1_worthFrom_95 : decode cX1_worthFrom 95 = .ok (.iload 9, 2) := dk_21 9 (dk_at dksX1_worthFrom_4 0 rfl rfl)
theorem dX1_worthFrom_97 : decode cX1_worthFrom 97 = .ok (.invokestatic 327, 3) := dk_184 1 71 (dk_at dksX1_worthFrom_4 2 rfl rfl)
theorem dX1_worthFrom_100 : decode cX1_worthFrom 100 = .ok (.goto 10, 3) := dk_167 0 10 (dk_at dksX1_worthFrom_4 5 rfl rfl)
theorem dX1_worthFrom_103 : decode cX1_worthFrom 103 = .ok (.iload 8, 2) := dk_21 8 (dk_at dksX1_worthFrom_4 8 rfl rfl)
theorem dX1_worthFrom_105 : decode cX1_worthFrom 105 = .ok (.iload 9, 2) := dk_21 9 (dk_at dksX1_worthFrom_4 10 rfl rfl)
theorem dX1_worthFrom_107 : decode cX1_worthFrom 107 = .ok (.invokestatic 332, 3) := dk_184 1 76 (dk_at dksX1_worthFrom_4 12 rfl rfl)
theorem dX1_worthFrom_110 : decode cX1_worthFrom 110 = .ok (.iadd, 1) := dk_96 (dk_at dksX1_worthFrom_4 15 rfl rfl)
theorem dX1_worthFrom_111 : decode cX1_worthFrom 111 = .ok (.istore 4, 2) := dk_54 4 (dk_at dksX1_worthFrom_4 16 rfl rfl)
theorem dX1_worthFrom_113 : decode cX1_worthFrom 113 = .ok (.iload 7, 2) := dk_21 7 (dk_at dksX1_worthFrom_4 18 rfl rfl)
theorem dX1_worthFrom_115 : decode cX1_worthFrom 115 = .ok (.istore 5, 2) := dk_54 5 (dk_at dksX1_worthFrom_4 20 rfl rfl)
theorem dX1_worthFrom_117 : decode cX1_worthFrom 117 = .ok (.goto 17, 3) := dk_167 0 17 (dk_at dksX1_worthFrom_5 0 rfl rfl)
theorem dX1_worthFrom_120 : decode cX1_worthFrom 120 = .ok (.iload 4, 2) := dk_21 4 (dk_at dksX1_worthFrom_5 3 rfl rfl)
theorem dX1_worthFrom_122 : decode cX1_worthFrom 122 = .ok (.aload_n 0, 1) := dk_42 (dk_at dksX1_worthFrom_5 5 rfl rfl)
theorem dX1_worthFrom_123 : decode cX1_worthFrom 123 = .ok (.getfield 28, 3) := dk_180 0 28 (dk_at dksX1_worthFrom_5 6 rfl rfl)
theorem dX1_worthFrom_126 : decode cX1_worthFrom 126 = .ok (.iload 5, 2) := dk_21 5 (dk_at dksX1_worthFrom_5 9 rfl rfl)
theorem dX1_worthFrom_128 : decode cX1_worthFrom 128 = .ok (.invokevirtual 335, 3) := dk_182 1 79 (dk_at dksX1_worthFrom_5 11 rfl rfl)
theorem dX1_worthFrom_131 : decode cX1_worthFrom 131 = .ok (.iadd, 1) := dk_96 (dk_at dksX1_worthFrom_5 14 rfl rfl)
theorem dX1_worthFrom_132 : decode cX1_worthFrom 132 = .ok (.istore 4, 2) := dk_54 4 (dk_at dksX1_worthFrom_5 15 rfl rfl)
theorem dX1_worthFrom_134 : decode cX1_worthFrom 134 = .ok (.iinc 5 1, 3) := dk_132 5 1 (dk_at dksX1_worthFrom_5 17 rfl rfl)
theorem dX1_worthFrom_137 : decode cX1_worthFrom 137 = .ok (.goto (-131), 3) := dk_167 255 125 (dk_at dksX1_worthFrom_5 20 rfl rfl)
theorem dX1_worthFrom_140 : decode cX1_worthFrom 140 = .ok (.iload 4, 2) := dk_21 4 (dk_at dksX1_worthFrom_6 0 rfl rfl)
theorem dX1_worthFrom_142 : decode cX1_worthFrom 142 = .ok (.ireturn, 1) := dk_172 (dk_at dksX1_worthFrom_6 2 rfl rfl)
abbrev cX1_worthAgain : ByteArray := prog_1_method_42_code
def yX1_worthAgain : MethodName := ⟨RX1, "worthAgain", "(IZ)I"⟩
def dkwX1_worthAgain_3 : List UInt8 := [167, 255, 190, 29, 172]
abbrev dktX1_worthAgain_3 : List UInt8 := dkwX1_worthAgain_3 ++ []
def dkwX1_worthAgain_2 : List UInt8 := [29, 164, 0, 17, 167, 0, 9, 21, 5, 29, 162, 0, 8, 21, 5, 167, 0, 4, 29, 62, 132, 4, 1]
abbrev dktX1_worthAgain_2 : List UInt8 := dkwX1_worthAgain_2 ++ dktX1_worthAgain_3
def dkwX1_worthAgain_1 : List UInt8 := [42, 180, 0, 58, 42, 180, 0, 28, 182, 1, 56, 54, 5, 21, 4, 153, 0, 22, 28, 153, 0, 12, 21, 5]
abbrev dktX1_worthAgain_1 : List UInt8 := dkwX1_worthAgain_1 ++ dktX1_worthAgain_2
def dkwX1_worthAgain_0 : List UInt8 := [3, 62, 3, 54, 4, 21, 4, 27, 162, 0, 66, 42, 180, 0, 58, 42, 180, 0, 28, 21, 4, 182, 1, 28]
abbrev dktX1_worthAgain_0 : List UInt8 := dkwX1_worthAgain_0 ++ dktX1_worthAgain_1
theorem dksX1_worthAgain_0 : cX1_worthAgain.data.toList.drop 0 = dktX1_worthAgain_0 := by decide +kernel
theorem dksX1_worthAgain_1 : cX1_worthAgain.data.toList.drop 24 = dktX1_worthAgain_1 := dk_seg dksX1_worthAgain_0 24 rfl rfl
theorem dksX1_worthAgain_2 : cX1_worthAgain.data.toList.drop 48 = dktX1_worthAgain_2 := dk_seg dksX1_worthAgain_1 24 rfl rfl
theorem dksX1_worthAgain_3 : cX1_worthAgain.data.toList.drop 71 = dktX1_worthAgain_3 := dk_seg dksX1_worthAgain_2 23 rfl rfl
theorem dX1_worthAgain_0 : decode cX1_worthAgain 0 = .ok (.iconst 0, 1) := dk_3 (dk_at dksX1_worthAgain_0 0 rfl rfl)
theorem dX1_worthAgain_1 : decode cX1_worthAgain 1 = .ok (.istore_n 3, 1) := dk_62 (dk_at dksX1_worthAgain_0 1 rfl rfl)
theorem dX1_worthAgain_2 : decode cX1_worthAgain 2 = .ok (.iconst 0, 1) := dk_3 (dk_at dksX1_worthAgain_0 2 rfl rfl)
theorem dX1_worthAgain_3 : decode cX1_worthAgain 3 = .ok (.istore 4, 2) := dk_54 4 (dk_at dksX1_worthAgain_0 3 rfl rfl)
theorem dX1_worthAgain_5 : decode cX1_worthAgain 5 = .ok (.iload 4, 2) := dk_21 4 (dk_at dksX1_worthAgain_0 5 rfl rfl)
theorem dX1_worthAgain_7 : decode cX1_worthAgain 7 = .ok (.iload_n 1, 1) := dk_27 (dk_at dksX1_worthAgain_0 7 rfl rfl)
theorem dX1_worthAgain_8 : decode cX1_worthAgain 8 = .ok (.if_icmp .ge 66, 3) := dk_162 0 66 (dk_at dksX1_worthAgain_0 8 rfl rfl)
theorem dX1_worthAgain_11 : decode cX1_worthAgain 11 = .ok (.aload_n 0, 1) := dk_42 (dk_at dksX1_worthAgain_0 11 rfl rfl)
theorem dX1_worthAgain_12 : decode cX1_worthAgain 12 = .ok (.getfield 58, 3) := dk_180 0 58 (dk_at dksX1_worthAgain_0 12 rfl rfl)
theorem dX1_worthAgain_15 : decode cX1_worthAgain 15 = .ok (.aload_n 0, 1) := dk_42 (dk_at dksX1_worthAgain_0 15 rfl rfl)
theorem dX1_worthAgain_16 : decode cX1_worthAgain 16 = .ok (.getfield 28, 3) := dk_180 0 28 (dk_at dksX1_worthAgain_0 16 rfl rfl)
theorem dX1_worthAgain_19 : decode cX1_worthAgain 19 = .ok (.iload 4, 2) := dk_21 4 (dk_at dksX1_worthAgain_0 19 rfl rfl)
theorem dX1_worthAgain_21 : decode cX1_worthAgain 21 = .ok (.invokevirtual 284, 3) := dk_182 1 28 (dk_at dksX1_worthAgain_0 21 rfl rfl)
theorem dX1_worthAgain_24 : decode cX1_worthAgain 24 = .ok (.aload_n 0, 1) := dk_42 (dk_at dksX1_worthAgain_1 0 rfl rfl)
theorem dX1_worthAgain_25 : decode cX1_worthAgain 25 = .ok (.getfield 58, 3) := dk_180 0 58 (dk_at dksX1_worthAgain_1 1 rfl rfl)
theorem dX1_worthAgain_28 : decode cX1_worthAgain 28 = .ok (.aload_n 0, 1) := dk_42 (dk_at dksX1_worthAgain_1 4 rfl rfl)
theorem dX1_worthAgain_29 : decode cX1_worthAgain 29 = .ok (.getfield 28, 3) := dk_180 0 28 (dk_at dksX1_worthAgain_1 5 rfl rfl)
theorem dX1_worthAgain_32 : decode cX1_worthAgain 32 = .ok (.invokevirtual 312, 3) := dk_182 1 56 (dk_at dksX1_worthAgain_1 8 rfl rfl)
theorem dX1_worthAgain_35 : decode cX1_worthAgain 35 = .ok (.istore 5, 2) := dk_54 5 (dk_at dksX1_worthAgain_1 11 rfl rfl)
theorem dX1_worthAgain_37 : decode cX1_worthAgain 37 = .ok (.iload 4, 2) := dk_21 4 (dk_at dksX1_worthAgain_1 13 rfl rfl)
theorem dX1_worthAgain_39 : decode cX1_worthAgain 39 = .ok (.ifCond .eq 22, 3) := dk_153 0 22 (dk_at dksX1_worthAgain_1 15 rfl rfl)
theorem dX1_worthAgain_42 : decode cX1_worthAgain 42 = .ok (.iload_n 2, 1) := dk_28 (dk_at dksX1_worthAgain_1 18 rfl rfl)
theorem dX1_worthAgain_43 : decode cX1_worthAgain 43 = .ok (.ifCond .eq 12, 3) := dk_153 0 12 (dk_at dksX1_worthAgain_1 19 rfl rfl)
theorem dX1_worthAgain_46 : decode cX1_worthAgain 46 = .ok (.iload 5, 2) := dk_21 5 (dk_at dksX1_worthAgain_1 22 rfl rfl)
theorem dX1_worthAgain_48 : decode cX1_worthAgain 48 = .ok (.iload_n 3, 1) := dk_29 (dk_at dksX1_worthAgain_2 0 rfl rfl)
theorem dX1_worthAgain_49 : decode cX1_worthAgain 49 = .ok (.if_icmp .le 17, 3) := dk_164 0 17 (dk_at dksX1_worthAgain_2 1 rfl rfl)
theorem dX1_worthAgain_52 : decode cX1_worthAgain 52 = .ok (.goto 9, 3) := dk_167 0 9 (dk_at dksX1_worthAgain_2 4 rfl rfl)
theorem dX1_worthAgain_55 : decode cX1_worthAgain 55 = .ok (.iload 5, 2) := dk_21 5 (dk_at dksX1_worthAgain_2 7 rfl rfl)
theorem dX1_worthAgain_57 : decode cX1_worthAgain 57 = .ok (.iload_n 3, 1) := dk_29 (dk_at dksX1_worthAgain_2 9 rfl rfl)
theorem dX1_worthAgain_58 : decode cX1_worthAgain 58 = .ok (.if_icmp .ge 8, 3) := dk_162 0 8 (dk_at dksX1_worthAgain_2 10 rfl rfl)
theorem dX1_worthAgain_61 : decode cX1_worthAgain 61 = .ok (.iload 5, 2) := dk_21 5 (dk_at dksX1_worthAgain_2 13 rfl rfl)
theorem dX1_worthAgain_63 : decode cX1_worthAgain 63 = .ok (.goto 4, 3) := dk_167 0 4 (dk_at dksX1_worthAgain_2 15 rfl rfl)
theorem dX1_worthAgain_66 : decode cX1_worthAgain 66 = .ok (.iload_n 3, 1) := dk_29 (dk_at dksX1_worthAgain_2 18 rfl rfl)
theorem dX1_worthAgain_67 : decode cX1_worthAgain 67 = .ok (.istore_n 3, 1) := dk_62 (dk_at dksX1_worthAgain_2 19 rfl rfl)
theorem dX1_worthAgain_68 : decode cX1_worthAgain 68 = .ok (.iinc 4 1, 3) := dk_132 4 1 (dk_at dksX1_worthAgain_2 20 rfl rfl)
theorem dX1_worthAgain_71 : decode cX1_worthAgain 71 = .ok (.goto (-66), 3) := dk_167 255 190 (dk_at dksX1_worthAgain_3 0 rfl rfl)
theorem dX1_worthAgain_74 : decode cX1_worthAgain 74 = .ok (.iload_n 3, 1) := dk_29 (dk_at dksX1_worthAgain_3 3 rfl rfl)
theorem dX1_worthAgain_75 : decode cX1_worthAgain 75 = .ok (.ireturn, 1) := dk_172 (dk_at dksX1_worthAgain_3 4 rfl rfl)
abbrev cX1_save : ByteArray := prog_1_method_57_code
def yX1_save : MethodName := ⟨RX1, "save", "()I"⟩
def dkwX1_save_0 : List UInt8 := [42, 180, 0, 35, 42, 180, 0, 28, 182, 0, 144, 42, 4, 181, 1, 151, 42, 180, 0, 28, 180, 0, 237, 172]
abbrev dktX1_save_0 : List UInt8 := dkwX1_save_0 ++ []
theorem dksX1_save_0 : cX1_save.data.toList.drop 0 = dktX1_save_0 := by decide +kernel
theorem dX1_save_0 : decode cX1_save 0 = .ok (.aload_n 0, 1) := dk_42 (dk_at dksX1_save_0 0 rfl rfl)
theorem dX1_save_1 : decode cX1_save 1 = .ok (.getfield 35, 3) := dk_180 0 35 (dk_at dksX1_save_0 1 rfl rfl)
theorem dX1_save_4 : decode cX1_save 4 = .ok (.aload_n 0, 1) := dk_42 (dk_at dksX1_save_0 4 rfl rfl)
theorem dX1_save_5 : decode cX1_save 5 = .ok (.getfield 28, 3) := dk_180 0 28 (dk_at dksX1_save_0 5 rfl rfl)
theorem dX1_save_8 : decode cX1_save 8 = .ok (.invokevirtual 144, 3) := dk_182 0 144 (dk_at dksX1_save_0 8 rfl rfl)
theorem dX1_save_11 : decode cX1_save 11 = .ok (.aload_n 0, 1) := dk_42 (dk_at dksX1_save_0 11 rfl rfl)
theorem dX1_save_12 : decode cX1_save 12 = .ok (.iconst 1, 1) := dk_4 (dk_at dksX1_save_0 12 rfl rfl)
theorem dX1_save_13 : decode cX1_save 13 = .ok (.putfield 407, 3) := dk_181 1 151 (dk_at dksX1_save_0 13 rfl rfl)
theorem dX1_save_16 : decode cX1_save 16 = .ok (.aload_n 0, 1) := dk_42 (dk_at dksX1_save_0 16 rfl rfl)
theorem dX1_save_17 : decode cX1_save 17 = .ok (.getfield 28, 3) := dk_180 0 28 (dk_at dksX1_save_0 17 rfl rfl)
theorem dX1_save_20 : decode cX1_save 20 = .ok (.getfield 237, 3) := dk_180 0 237 (dk_at dksX1_save_0 20 rfl rfl)
theorem dX1_save_23 : decode cX1_save 23 = .ok (.ireturn, 1) := dk_172 (dk_at dksX1_save_0 23 rfl rfl)
abbrev cX1_good : ByteArray := prog_1_method_18_code
def yX1_good : MethodName := ⟨RX1, "good", "(II)I"⟩
def dkwX1_good_1 : List UInt8 := [184, 0, 157, 42, 42, 182, 0, 160, 27, 28, 182, 0, 164, 182, 0, 168, 172, 78, 42, 45, 182, 0, 172, 191]
abbrev dktX1_good_1 : List UInt8 := dkwX1_good_1 ++ []
def dkwX1_good_0 : List UInt8 := [27, 184, 0, 154, 153, 0, 17, 28, 4, 16, 99, 184, 0, 124, 153, 0, 7, 4, 167, 0, 4, 3]
abbrev dktX1_good_0 : List UInt8 := dkwX1_good_0 ++ dktX1_good_1
theorem dksX1_good_0 : cX1_good.data.toList.drop 0 = dktX1_good_0 := by decide +kernel
theorem dksX1_good_1 : cX1_good.data.toList.drop 22 = dktX1_good_1 := dk_seg dksX1_good_0 22 rfl rfl
theorem dX1_good_0 : decode cX1_good 0 = .ok (.iload_n 1, 1) := dk_27 (dk_at dksX1_good_0 0 rfl rfl)
theorem dX1_good_1 : decode cX1_good 1 = .ok (.invokestatic 154, 3) := dk_184 0 154 (dk_at dksX1_good_0 1 rfl rfl)
theorem dX1_good_4 : decode cX1_good 4 = .ok (.ifCond .eq 17, 3) := dk_153 0 17 (dk_at dksX1_good_0 4 rfl rfl)
theorem dX1_good_7 : decode cX1_good 7 = .ok (.iload_n 2, 1) := dk_28 (dk_at dksX1_good_0 7 rfl rfl)
theorem dX1_good_8 : decode cX1_good 8 = .ok (.iconst 1, 1) := dk_4 (dk_at dksX1_good_0 8 rfl rfl)
theorem dX1_good_9 : decode cX1_good 9 = .ok (.bipush 99, 2) := dk_16 99 (dk_at dksX1_good_0 9 rfl rfl)
theorem dX1_good_11 : decode cX1_good 11 = .ok (.invokestatic 124, 3) := dk_184 0 124 (dk_at dksX1_good_0 11 rfl rfl)
theorem dX1_good_14 : decode cX1_good 14 = .ok (.ifCond .eq 7, 3) := dk_153 0 7 (dk_at dksX1_good_0 14 rfl rfl)
theorem dX1_good_17 : decode cX1_good 17 = .ok (.iconst 1, 1) := dk_4 (dk_at dksX1_good_0 17 rfl rfl)
theorem dX1_good_18 : decode cX1_good 18 = .ok (.goto 4, 3) := dk_167 0 4 (dk_at dksX1_good_0 18 rfl rfl)
theorem dX1_good_21 : decode cX1_good 21 = .ok (.iconst 0, 1) := dk_3 (dk_at dksX1_good_0 21 rfl rfl)
theorem dX1_good_22 : decode cX1_good 22 = .ok (.invokestatic 157, 3) := dk_184 0 157 (dk_at dksX1_good_1 0 rfl rfl)
theorem dX1_good_25 : decode cX1_good 25 = .ok (.aload_n 0, 1) := dk_42 (dk_at dksX1_good_1 3 rfl rfl)
theorem dX1_good_26 : decode cX1_good 26 = .ok (.aload_n 0, 1) := dk_42 (dk_at dksX1_good_1 4 rfl rfl)
theorem dX1_good_27 : decode cX1_good 27 = .ok (.invokevirtual 160, 3) := dk_182 0 160 (dk_at dksX1_good_1 5 rfl rfl)
theorem dX1_good_30 : decode cX1_good 30 = .ok (.iload_n 1, 1) := dk_27 (dk_at dksX1_good_1 8 rfl rfl)
theorem dX1_good_31 : decode cX1_good 31 = .ok (.iload_n 2, 1) := dk_28 (dk_at dksX1_good_1 9 rfl rfl)
theorem dX1_good_32 : decode cX1_good 32 = .ok (.invokevirtual 164, 3) := dk_182 0 164 (dk_at dksX1_good_1 10 rfl rfl)
theorem dX1_good_35 : decode cX1_good 35 = .ok (.invokevirtual 168, 3) := dk_182 0 168 (dk_at dksX1_good_1 13 rfl rfl)
theorem dX1_good_38 : decode cX1_good 38 = .ok (.ireturn, 1) := dk_172 (dk_at dksX1_good_1 16 rfl rfl)
theorem dX1_good_39 : decode cX1_good 39 = .ok (.astore_n 3, 1) := dk_78 (dk_at dksX1_good_1 17 rfl rfl)
theorem dX1_good_40 : decode cX1_good 40 = .ok (.aload_n 0, 1) := dk_42 (dk_at dksX1_good_1 18 rfl rfl)
theorem dX1_good_41 : decode cX1_good 41 = .ok (.aload_n 3, 1) := dk_45 (dk_at dksX1_good_1 19 rfl rfl)
theorem dX1_good_42 : decode cX1_good 42 = .ok (.invokevirtual 172, 3) := dk_182 0 172 (dk_at dksX1_good_1 20 rfl rfl)
theorem dX1_good_45 : decode cX1_good 45 = .ok (.athrow, 1) := dk_191 (dk_at dksX1_good_1 23 rfl rfl)
abbrev cX1_isKind : ByteArray := prog_1_method_12_code
def yX1_isKind : MethodName := ⟨RX1, "isKind", "(I)Z"⟩
def dkwX1_isKind_0 : List UInt8 := [26, 3, 5, 184, 0, 124, 172]
abbrev dktX1_isKind_0 : List UInt8 := dkwX1_isKind_0 ++ []
theorem dksX1_isKind_0 : cX1_isKind.data.toList.drop 0 = dktX1_isKind_0 := by decide +kernel
theorem dX1_isKind_0 : decode cX1_isKind 0 = .ok (.iload_n 0, 1) := dk_26 (dk_at dksX1_isKind_0 0 rfl rfl)
theorem dX1_isKind_1 : decode cX1_isKind 1 = .ok (.iconst 0, 1) := dk_3 (dk_at dksX1_isKind_0 1 rfl rfl)
theorem dX1_isKind_2 : decode cX1_isKind 2 = .ok (.iconst 2, 1) := dk_5 (dk_at dksX1_isKind_0 2 rfl rfl)
theorem dX1_isKind_3 : decode cX1_isKind 3 = .ok (.invokestatic 124, 3) := dk_184 0 124 (dk_at dksX1_isKind_0 3 rfl rfl)
theorem dX1_isKind_6 : decode cX1_isKind 6 = .ok (.ireturn, 1) := dk_172 (dk_at dksX1_isKind_0 6 rfl rfl)
abbrev cX1_check : ByteArray := prog_1_method_6_code
def yX1_check : MethodName := ⟨RX1, "check", "(Z)V"⟩
def dkwX1_check_0 : List UInt8 := [26, 154, 0, 11, 187, 0, 96, 89, 183, 0, 98, 191, 177]
abbrev dktX1_check_0 : List UInt8 := dkwX1_check_0 ++ []
theorem dksX1_check_0 : cX1_check.data.toList.drop 0 = dktX1_check_0 := by decide +kernel
theorem dX1_check_0 : decode cX1_check 0 = .ok (.iload_n 0, 1) := dk_26 (dk_at dksX1_check_0 0 rfl rfl)
theorem dX1_check_1 : decode cX1_check 1 = .ok (.ifCond .ne 11, 3) := dk_154 0 11 (dk_at dksX1_check_0 1 rfl rfl)
theorem dX1_check_4 : decode cX1_check 4 = .ok (.new 96, 3) := dk_187 0 96 (dk_at dksX1_check_0 4 rfl rfl)
theorem dX1_check_7 : decode cX1_check 7 = .ok (.dup, 1) := dk_89 (dk_at dksX1_check_0 7 rfl rfl)
theorem dX1_check_8 : decode cX1_check 8 = .ok (.invokespecial 98, 3) := dk_183 0 98 (dk_at dksX1_check_0 8 rfl rfl)
theorem dX1_check_11 : decode cX1_check 11 = .ok (.athrow, 1) := dk_191 (dk_at dksX1_check_0 11 rfl rfl)
theorem dX1_check_12 : decode cX1_check 12 = .ok (.return_, 1) := dk_177 (dk_at dksX1_check_0 12 rfl rfl)
abbrev cX1_tryOn : ByteArray := prog_1_method_16_code
def yX1_tryOn : MethodName := ⟨RX1, "tryOn", "()LPloughWills$Will;"⟩
def dkwX1_tryOn_0 : List UInt8 := [42, 180, 0, 32, 42, 180, 0, 28, 182, 0, 144, 42, 180, 0, 32, 176]
abbrev dktX1_tryOn_0 : List UInt8 := dkwX1_tryOn_0 ++ []
theorem dksX1_tryOn_0 : cX1_tryOn.data.toList.drop 0 = dktX1_tryOn_0 := by decide +kernel
theorem dX1_tryOn_0 : decode cX1_tryOn 0 = .ok (.aload_n 0, 1) := dk_42 (dk_at dksX1_tryOn_0 0 rfl rfl)
theorem dX1_tryOn_1 : decode cX1_tryOn 1 = .ok (.getfield 32, 3) := dk_180 0 32 (dk_at dksX1_tryOn_0 1 rfl rfl)
theorem dX1_tryOn_4 : decode cX1_tryOn 4 = .ok (.aload_n 0, 1) := dk_42 (dk_at dksX1_tryOn_0 4 rfl rfl)
theorem dX1_tryOn_5 : decode cX1_tryOn 5 = .ok (.getfield 28, 3) := dk_180 0 28 (dk_at dksX1_tryOn_0 5 rfl rfl)
theorem dX1_tryOn_8 : decode cX1_tryOn 8 = .ok (.invokevirtual 144, 3) := dk_182 0 144 (dk_at dksX1_tryOn_0 8 rfl rfl)
theorem dX1_tryOn_11 : decode cX1_tryOn 11 = .ok (.aload_n 0, 1) := dk_42 (dk_at dksX1_tryOn_0 11 rfl rfl)
theorem dX1_tryOn_12 : decode cX1_tryOn 12 = .ok (.getfield 32, 3) := dk_180 0 32 (dk_at dksX1_tryOn_0 12 rfl rfl)
theorem dX1_tryOn_15 : decode cX1_tryOn 15 = .ok (.areturn, 1) := dk_176 (dk_at dksX1_tryOn_0 15 rfl rfl)
abbrev cX1_refuse : ByteArray := prog_1_method_2_code
def yX1_refuse : MethodName := ⟨RX1, "refuse", "(ZII)V"⟩
def dkwX1_refuse_0 : List UInt8 := [26, 153, 0, 13, 187, 0, 1, 89, 27, 28, 183, 0, 3, 191, 177]
abbrev dktX1_refuse_0 : List UInt8 := dkwX1_refuse_0 ++ []
theorem dksX1_refuse_0 : cX1_refuse.data.toList.drop 0 = dktX1_refuse_0 := by decide +kernel
theorem dX1_refuse_0 : decode cX1_refuse 0 = .ok (.iload_n 0, 1) := dk_26 (dk_at dksX1_refuse_0 0 rfl rfl)
theorem dX1_refuse_1 : decode cX1_refuse 1 = .ok (.ifCond .eq 13, 3) := dk_153 0 13 (dk_at dksX1_refuse_0 1 rfl rfl)
theorem dX1_refuse_4 : decode cX1_refuse 4 = .ok (.new 1, 3) := dk_187 0 1 (dk_at dksX1_refuse_0 4 rfl rfl)
theorem dX1_refuse_7 : decode cX1_refuse 7 = .ok (.dup, 1) := dk_89 (dk_at dksX1_refuse_0 7 rfl rfl)
theorem dX1_refuse_8 : decode cX1_refuse 8 = .ok (.iload_n 1, 1) := dk_27 (dk_at dksX1_refuse_0 8 rfl rfl)
theorem dX1_refuse_9 : decode cX1_refuse 9 = .ok (.iload_n 2, 1) := dk_28 (dk_at dksX1_refuse_0 9 rfl rfl)
theorem dX1_refuse_10 : decode cX1_refuse 10 = .ok (.invokespecial 3, 3) := dk_183 0 3 (dk_at dksX1_refuse_0 10 rfl rfl)
theorem dX1_refuse_13 : decode cX1_refuse 13 = .ok (.athrow, 1) := dk_191 (dk_at dksX1_refuse_0 13 rfl rfl)
theorem dX1_refuse_14 : decode cX1_refuse 14 = .ok (.return_, 1) := dk_177 (dk_at dksX1_refuse_0 14 rfl rfl)
abbrev cX1_goodOf : ByteArray := prog_1_method_3_code
def yX1_goodOf : MethodName := ⟨RX1, "goodOf", "(III)LPloughWills$Good;"⟩
def dkwX1_goodOf_3 : List UInt8 := [26, 28, 183, 0, 15, 176]
abbrev dktX1_goodOf_3 : List UInt8 := dkwX1_goodOf_3 ++ []
def dkwX1_goodOf_2 : List UInt8 := [187, 0, 7, 89, 26, 28, 183, 0, 9, 176, 187, 0, 10, 89, 26, 28, 183, 0, 12, 176, 187, 0, 13, 89]
abbrev dktX1_goodOf_2 : List UInt8 := dkwX1_goodOf_2 ++ dktX1_goodOf_3
def dkwX1_goodOf_1 : List UInt8 := [171, 0, 0, 0, 0, 0, 47, 0, 0, 0, 2, 0, 0, 0, 0, 0, 0, 0, 27, 0, 0, 0, 1, 0, 0, 0, 37]
abbrev dktX1_goodOf_1 : List UInt8 := dkwX1_goodOf_1 ++ dktX1_goodOf_2
def dkwX1_goodOf_0 : List UInt8 := [27]
abbrev dktX1_goodOf_0 : List UInt8 := dkwX1_goodOf_0 ++ dktX1_goodOf_1
theorem dksX1_goodOf_0 : cX1_goodOf.data.toList.drop 0 = dktX1_goodOf_0 := by decide +kernel
theorem dksX1_goodOf_1 : cX1_goodOf.data.toList.drop 1 = dktX1_goodOf_1 := dk_seg dksX1_goodOf_0 1 rfl rfl
theorem dksX1_goodOf_2 : cX1_goodOf.data.toList.drop 28 = dktX1_goodOf_2 := dk_seg dksX1_goodOf_1 27 rfl rfl
theorem dksX1_goodOf_3 : cX1_goodOf.data.toList.drop 52 = dktX1_goodOf_3 := dk_seg dksX1_goodOf_2 24 rfl rfl
theorem dX1_goodOf_0 : decode cX1_goodOf 0 = .ok (.iload_n 1, 1) := dk_27 (dk_at dksX1_goodOf_0 0 rfl rfl)
theorem dX1_goodOf_1 : decode cX1_goodOf 1 = .ok (.lookupswitch 47 #[(0, 27), (1, 37)], 27) := by decide +kernel
theorem dX1_goodOf_28 : decode cX1_goodOf 28 = .ok (.new 7, 3) := dk_187 0 7 (dk_at dksX1_goodOf_2 0 rfl rfl)
theorem dX1_goodOf_31 : decode cX1_goodOf 31 = .ok (.dup, 1) := dk_89 (dk_at dksX1_goodOf_2 3 rfl rfl)
theorem dX1_goodOf_32 : decode cX1_goodOf 32 = .ok (.iload_n 0, 1) := dk_26 (dk_at dksX1_goodOf_2 4 rfl rfl)
theorem dX1_goodOf_33 : decode cX1_goodOf 33 = .ok (.iload_n 2, 1) := dk_28 (dk_at dksX1_goodOf_2 5 rfl rfl)
theorem dX1_goodOf_34 : decode cX1_goodOf 34 = .ok (.invokespecial 9, 3) := dk_183 0 9 (dk_at dksX1_goodOf_2 6 rfl rfl)
theorem dX1_goodOf_37 : decode cX1_goodOf 37 = .ok (.areturn, 1) := dk_176 (dk_at dksX1_goodOf_2 9 rfl rfl)
theorem dX1_goodOf_38 : decode cX1_goodOf 38 = .ok (.new 10, 3) := dk_187 0 10 (dk_at dksX1_goodOf_2 10 rfl rfl)
theorem dX1_goodOf_41 : decode cX1_goodOf 41 = .ok (.dup, 1) := dk_89 (dk_at dksX1_goodOf_2 13 rfl rfl)
theorem dX1_goodOf_42 : decode cX1_goodOf 42 = .ok (.iload_n 0, 1) := dk_26 (dk_at dksX1_goodOf_2 14 rfl rfl)
theorem dX1_goodOf_43 : decode cX1_goodOf 43 = .ok (.iload_n 2, 1) := dk_28 (dk_at dksX1_goodOf_2 15 rfl rfl)
theorem dX1_goodOf_44 : decode cX1_goodOf 44 = .ok (.invokespecial 12, 3) := dk_183 0 12 (dk_at dksX1_goodOf_2 16 rfl rfl)
theorem dX1_goodOf_47 : decode cX1_goodOf 47 = .ok (.areturn, 1) := dk_176 (dk_at dksX1_goodOf_2 19 rfl rfl)
theorem dX1_goodOf_48 : decode cX1_goodOf 48 = .ok (.new 13, 3) := dk_187 0 13 (dk_at dksX1_goodOf_2 20 rfl rfl)
theorem dX1_goodOf_51 : decode cX1_goodOf 51 = .ok (.dup, 1) := dk_89 (dk_at dksX1_goodOf_2 23 rfl rfl)
theorem dX1_goodOf_52 : decode cX1_goodOf 52 = .ok (.iload_n 0, 1) := dk_26 (dk_at dksX1_goodOf_3 0 rfl rfl)
theorem dX1_goodOf_53 : decode cX1_goodOf 53 = .ok (.iload_n 2, 1) := dk_28 (dk_at dksX1_goodOf_3 1 rfl rfl)
theorem dX1_goodOf_54 : decode cX1_goodOf 54 = .ok (.invokespecial 15, 3) := dk_183 0 15 (dk_at dksX1_goodOf_3 2 rfl rfl)
theorem dX1_goodOf_57 : decode cX1_goodOf 57 = .ok (.areturn, 1) := dk_176 (dk_at dksX1_goodOf_3 5 rfl rfl)
abbrev cX1_becomes : ByteArray := prog_1_method_17_code
def yX1_becomes : MethodName := ⟨RX1, "becomes", "(I)I"⟩
def dkwX1_becomes_1 : List UInt8 := [96, 181, 0, 151, 27, 172]
abbrev dktX1_becomes_1 : List UInt8 := dkwX1_becomes_1 ++ []
def dkwX1_becomes_0 : List UInt8 := [42, 182, 0, 148, 42, 180, 0, 28, 42, 180, 0, 32, 182, 0, 144, 42, 180, 0, 28, 89, 180, 0, 151, 4]
abbrev dktX1_becomes_0 : List UInt8 := dkwX1_becomes_0 ++ dktX1_becomes_1
theorem dksX1_becomes_0 : cX1_becomes.data.toList.drop 0 = dktX1_becomes_0 := by decide +kernel
theorem dksX1_becomes_1 : cX1_becomes.data.toList.drop 24 = dktX1_becomes_1 := dk_seg dksX1_becomes_0 24 rfl rfl
theorem dX1_becomes_0 : decode cX1_becomes 0 = .ok (.aload_n 0, 1) := dk_42 (dk_at dksX1_becomes_0 0 rfl rfl)
theorem dX1_becomes_1 : decode cX1_becomes 1 = .ok (.invokevirtual 148, 3) := dk_182 0 148 (dk_at dksX1_becomes_0 1 rfl rfl)
theorem dX1_becomes_4 : decode cX1_becomes 4 = .ok (.aload_n 0, 1) := dk_42 (dk_at dksX1_becomes_0 4 rfl rfl)
theorem dX1_becomes_5 : decode cX1_becomes 5 = .ok (.getfield 28, 3) := dk_180 0 28 (dk_at dksX1_becomes_0 5 rfl rfl)
theorem dX1_becomes_8 : decode cX1_becomes 8 = .ok (.aload_n 0, 1) := dk_42 (dk_at dksX1_becomes_0 8 rfl rfl)
theorem dX1_becomes_9 : decode cX1_becomes 9 = .ok (.getfield 32, 3) := dk_180 0 32 (dk_at dksX1_becomes_0 9 rfl rfl)
theorem dX1_becomes_12 : decode cX1_becomes 12 = .ok (.invokevirtual 144, 3) := dk_182 0 144 (dk_at dksX1_becomes_0 12 rfl rfl)
theorem dX1_becomes_15 : decode cX1_becomes 15 = .ok (.aload_n 0, 1) := dk_42 (dk_at dksX1_becomes_0 15 rfl rfl)
theorem dX1_becomes_16 : decode cX1_becomes 16 = .ok (.getfield 28, 3) := dk_180 0 28 (dk_at dksX1_becomes_0 16 rfl rfl)
theorem dX1_becomes_19 : decode cX1_becomes 19 = .ok (.dup, 1) := dk_89 (dk_at dksX1_becomes_0 19 rfl rfl)
theorem dX1_becomes_20 : decode cX1_becomes 20 = .ok (.getfield 151, 3) := dk_180 0 151 (dk_at dksX1_becomes_0 20 rfl rfl)
theorem dX1_becomes_23 : decode cX1_becomes 23 = .ok (.iconst 1, 1) := dk_4 (dk_at dksX1_becomes_0 23 rfl rfl)
theorem dX1_becomes_24 : decode cX1_becomes 24 = .ok (.iadd, 1) := dk_96 (dk_at dksX1_becomes_1 0 rfl rfl)
theorem dX1_becomes_25 : decode cX1_becomes 25 = .ok (.putfield 151, 3) := dk_181 0 151 (dk_at dksX1_becomes_1 1 rfl rfl)
theorem dX1_becomes_28 : decode cX1_becomes 28 = .ok (.iload_n 1, 1) := dk_27 (dk_at dksX1_becomes_1 4 rfl rfl)
theorem dX1_becomes_29 : decode cX1_becomes 29 = .ok (.ireturn, 1) := dk_172 (dk_at dksX1_becomes_1 5 rfl rfl)
abbrev cX1_keep : ByteArray := prog_1_method_15_code
def yX1_keep : MethodName := ⟨RX1, "keep", "()V"⟩
def dkwX1_keep_2 : List UInt8 := [182, 0, 92, 177]
abbrev dktX1_keep_2 : List UInt8 := dkwX1_keep_2 ++ []
def dkwX1_keep_1 : List UInt8 := [180, 0, 45, 182, 0, 140, 192, 0, 25, 76, 43, 42, 180, 0, 28, 182, 0, 144, 42, 180, 0, 41, 43]
abbrev dktX1_keep_1 : List UInt8 := dkwX1_keep_1 ++ dktX1_keep_2
def dkwX1_keep_0 : List UInt8 := [42, 180, 0, 45, 182, 0, 136, 153, 0, 16, 42, 180, 0, 41, 182, 0, 140, 192, 0, 25, 167, 0, 13, 42]
abbrev dktX1_keep_0 : List UInt8 := dkwX1_keep_0 ++ dktX1_keep_1
theorem dksX1_keep_0 : cX1_keep.data.toList.drop 0 = dktX1_keep_0 := by decide +kernel
theorem dksX1_keep_1 : cX1_keep.data.toList.drop 24 = dktX1_keep_1 := dk_seg dksX1_keep_0 24 rfl rfl
theorem dksX1_keep_2 : cX1_keep.data.toList.drop 47 = dktX1_keep_2 := dk_seg dksX1_keep_1 23 rfl rfl
theorem dX1_keep_0 : decode cX1_keep 0 = .ok (.aload_n 0, 1) := dk_42 (dk_at dksX1_keep_0 0 rfl rfl)
theorem dX1_keep_1 : decode cX1_keep 1 = .ok (.getfield 45, 3) := dk_180 0 45 (dk_at dksX1_keep_0 1 rfl rfl)
theorem dX1_keep_4 : decode cX1_keep 4 = .ok (.invokevirtual 136, 3) := dk_182 0 136 (dk_at dksX1_keep_0 4 rfl rfl)
theorem dX1_keep_7 : decode cX1_keep 7 = .ok (.ifCond .eq 16, 3) := dk_153 0 16 (dk_at dksX1_keep_0 7 rfl rfl)
theorem dX1_keep_10 : decode cX1_keep 10 = .ok (.aload_n 0, 1) := dk_42 (dk_at dksX1_keep_0 10 rfl rfl)
theorem dX1_keep_11 : decode cX1_keep 11 = .ok (.getfield 41, 3) := dk_180 0 41 (dk_at dksX1_keep_0 11 rfl rfl)
theorem dX1_keep_14 : decode cX1_keep 14 = .ok (.invokevirtual 140, 3) := dk_182 0 140 (dk_at dksX1_keep_0 14 rfl rfl)
theorem dX1_keep_17 : decode cX1_keep 17 = .ok (.checkcast 25, 3) := dk_192 0 25 (dk_at dksX1_keep_0 17 rfl rfl)
theorem dX1_keep_20 : decode cX1_keep 20 = .ok (.goto 13, 3) := dk_167 0 13 (dk_at dksX1_keep_0 20 rfl rfl)
theorem dX1_keep_23 : decode cX1_keep 23 = .ok (.aload_n 0, 1) := dk_42 (dk_at dksX1_keep_0 23 rfl rfl)
theorem dX1_keep_24 : decode cX1_keep 24 = .ok (.getfield 45, 3) := dk_180 0 45 (dk_at dksX1_keep_1 0 rfl rfl)
theorem dX1_keep_27 : decode cX1_keep 27 = .ok (.invokevirtual 140, 3) := dk_182 0 140 (dk_at dksX1_keep_1 3 rfl rfl)
theorem dX1_keep_30 : decode cX1_keep 30 = .ok (.checkcast 25, 3) := dk_192 0 25 (dk_at dksX1_keep_1 6 rfl rfl)
theorem dX1_keep_33 : decode cX1_keep 33 = .ok (.astore_n 1, 1) := dk_76 (dk_at dksX1_keep_1 9 rfl rfl)
theorem dX1_keep_34 : decode cX1_keep 34 = .ok (.aload_n 1, 1) := dk_43 (dk_at dksX1_keep_1 10 rfl rfl)
theorem dX1_keep_35 : decode cX1_keep 35 = .ok (.aload_n 0, 1) := dk_42 (dk_at dksX1_keep_1 11 rfl rfl)
theorem dX1_keep_36 : decode cX1_keep 36 = .ok (.getfield 28, 3) := dk_180 0 28 (dk_at dksX1_keep_1 12 rfl rfl)
theorem dX1_keep_39 : decode cX1_keep 39 = .ok (.invokevirtual 144, 3) := dk_182 0 144 (dk_at dksX1_keep_1 15 rfl rfl)
theorem dX1_keep_42 : decode cX1_keep 42 = .ok (.aload_n 0, 1) := dk_42 (dk_at dksX1_keep_1 18 rfl rfl)
theorem dX1_keep_43 : decode cX1_keep 43 = .ok (.getfield 41, 3) := dk_180 0 41 (dk_at dksX1_keep_1 19 rfl rfl)
theorem dX1_keep_46 : decode cX1_keep 46 = .ok (.aload_n 1, 1) := dk_43 (dk_at dksX1_keep_1 22 rfl rfl)
theorem dX1_keep_47 : decode cX1_keep 47 = .ok (.invokevirtual 92, 3) := dk_182 0 92 (dk_at dksX1_keep_2 0 rfl rfl)
theorem dX1_keep_50 : decode cX1_keep 50 = .ok (.return_, 1) := dk_177 (dk_at dksX1_keep_2 3 rfl rfl)
abbrev cX1_because : ByteArray := prog_1_method_11_code
def yX1_because : MethodName := ⟨RX1, "because", "(LPloughWills$Refused;)Ljava/lang/UnsupportedOperationException;"⟩
def dkwX1_because_0 : List UInt8 := [42, 43, 180, 0, 111, 181, 0, 114, 42, 43, 180, 0, 117, 181, 0, 120, 187, 0, 121, 89, 183, 0, 123, 176]
abbrev dktX1_because_0 : List UInt8 := dkwX1_because_0 ++ []
theorem dksX1_because_0 : cX1_because.data.toList.drop 0 = dktX1_because_0 := by decide +kernel
theorem dX1_because_0 : decode cX1_because 0 = .ok (.aload_n 0, 1) := dk_42 (dk_at dksX1_because_0 0 rfl rfl)
theorem dX1_because_1 : decode cX1_because 1 = .ok (.aload_n 1, 1) := dk_43 (dk_at dksX1_because_0 1 rfl rfl)
theorem dX1_because_2 : decode cX1_because 2 = .ok (.getfield 111, 3) := dk_180 0 111 (dk_at dksX1_because_0 2 rfl rfl)
theorem dX1_because_5 : decode cX1_because 5 = .ok (.putfield 114, 3) := dk_181 0 114 (dk_at dksX1_because_0 5 rfl rfl)
theorem dX1_because_8 : decode cX1_because 8 = .ok (.aload_n 0, 1) := dk_42 (dk_at dksX1_because_0 8 rfl rfl)
theorem dX1_because_9 : decode cX1_because 9 = .ok (.aload_n 1, 1) := dk_43 (dk_at dksX1_because_0 9 rfl rfl)
theorem dX1_because_10 : decode cX1_because 10 = .ok (.getfield 117, 3) := dk_180 0 117 (dk_at dksX1_because_0 10 rfl rfl)
theorem dX1_because_13 : decode cX1_because 13 = .ok (.putfield 120, 3) := dk_181 0 120 (dk_at dksX1_because_0 13 rfl rfl)
theorem dX1_because_16 : decode cX1_because 16 = .ok (.new 121, 3) := dk_187 0 121 (dk_at dksX1_because_0 16 rfl rfl)
theorem dX1_because_19 : decode cX1_because 19 = .ok (.dup, 1) := dk_89 (dk_at dksX1_because_0 19 rfl rfl)
theorem dX1_because_20 : decode cX1_because 20 = .ok (.invokespecial 123, 3) := dk_183 0 123 (dk_at dksX1_because_0 20 rfl rfl)
theorem dX1_because_23 : decode cX1_because 23 = .ok (.areturn, 1) := dk_176 (dk_at dksX1_because_0 23 rfl rfl)
abbrev cX1_put : ByteArray := prog_1_method_19_code
def yX1_put : MethodName := ⟨RX1, "put", "(II)I"⟩
def dkwX1_put_1 : List UInt8 := [182, 0, 168, 172, 78, 42, 45, 182, 0, 172, 191]
abbrev dktX1_put_1 : List UInt8 := dkwX1_put_1 ++ []
def dkwX1_put_0 : List UInt8 := [42, 27, 182, 0, 176, 28, 184, 0, 154, 184, 0, 157, 42, 42, 182, 0, 160, 27, 28, 182, 0, 180]
abbrev dktX1_put_0 : List UInt8 := dkwX1_put_0 ++ dktX1_put_1
theorem dksX1_put_0 : cX1_put.data.toList.drop 0 = dktX1_put_0 := by decide +kernel
theorem dksX1_put_1 : cX1_put.data.toList.drop 22 = dktX1_put_1 := dk_seg dksX1_put_0 22 rfl rfl
theorem dX1_put_0 : decode cX1_put 0 = .ok (.aload_n 0, 1) := dk_42 (dk_at dksX1_put_0 0 rfl rfl)
theorem dX1_put_1 : decode cX1_put 1 = .ok (.iload_n 1, 1) := dk_27 (dk_at dksX1_put_0 1 rfl rfl)
theorem dX1_put_2 : decode cX1_put 2 = .ok (.invokevirtual 176, 3) := dk_182 0 176 (dk_at dksX1_put_0 2 rfl rfl)
theorem dX1_put_5 : decode cX1_put 5 = .ok (.iload_n 2, 1) := dk_28 (dk_at dksX1_put_0 5 rfl rfl)
theorem dX1_put_6 : decode cX1_put 6 = .ok (.invokestatic 154, 3) := dk_184 0 154 (dk_at dksX1_put_0 6 rfl rfl)
theorem dX1_put_9 : decode cX1_put 9 = .ok (.invokestatic 157, 3) := dk_184 0 157 (dk_at dksX1_put_0 9 rfl rfl)
theorem dX1_put_12 : decode cX1_put 12 = .ok (.aload_n 0, 1) := dk_42 (dk_at dksX1_put_0 12 rfl rfl)
theorem dX1_put_13 : decode cX1_put 13 = .ok (.aload_n 0, 1) := dk_42 (dk_at dksX1_put_0 13 rfl rfl)
theorem dX1_put_14 : decode cX1_put 14 = .ok (.invokevirtual 160, 3) := dk_182 0 160 (dk_at dksX1_put_0 14 rfl rfl)
theorem dX1_put_17 : decode cX1_put 17 = .ok (.iload_n 1, 1) := dk_27 (dk_at dksX1_put_0 17 rfl rfl)
theorem dX1_put_18 : decode cX1_put 18 = .ok (.iload_n 2, 1) := dk_28 (dk_at dksX1_put_0 18 rfl rfl)
theorem dX1_put_19 : decode cX1_put 19 = .ok (.invokevirtual 180, 3) := dk_182 0 180 (dk_at dksX1_put_0 19 rfl rfl)
theorem dX1_put_22 : decode cX1_put 22 = .ok (.invokevirtual 168, 3) := dk_182 0 168 (dk_at dksX1_put_1 0 rfl rfl)
theorem dX1_put_25 : decode cX1_put 25 = .ok (.ireturn, 1) := dk_172 (dk_at dksX1_put_1 3 rfl rfl)
theorem dX1_put_26 : decode cX1_put 26 = .ok (.astore_n 3, 1) := dk_78 (dk_at dksX1_put_1 4 rfl rfl)
theorem dX1_put_27 : decode cX1_put 27 = .ok (.aload_n 0, 1) := dk_42 (dk_at dksX1_put_1 5 rfl rfl)
theorem dX1_put_28 : decode cX1_put 28 = .ok (.aload_n 3, 1) := dk_45 (dk_at dksX1_put_1 6 rfl rfl)
theorem dX1_put_29 : decode cX1_put 29 = .ok (.invokevirtual 172, 3) := dk_182 0 172 (dk_at dksX1_put_1 7 rfl rfl)
theorem dX1_put_32 : decode cX1_put 32 = .ok (.athrow, 1) := dk_191 (dk_at dksX1_put_1 10 rfl rfl)
abbrev cX1_checkGood : ByteArray := prog_1_method_14_code
def yX1_checkGood : MethodName := ⟨RX1, "checkGood", "(I)V"⟩
def dkwX1_checkGood_0 : List UInt8 := [42, 180, 0, 28, 27, 182, 0, 128, 184, 0, 132, 177]
abbrev dktX1_checkGood_0 : List UInt8 := dkwX1_checkGood_0 ++ []
theorem dksX1_checkGood_0 : cX1_checkGood.data.toList.drop 0 = dktX1_checkGood_0 := by decide +kernel
theorem dX1_checkGood_0 : decode cX1_checkGood 0 = .ok (.aload_n 0, 1) := dk_42 (dk_at dksX1_checkGood_0 0 rfl rfl)
theorem dX1_checkGood_1 : decode cX1_checkGood 1 = .ok (.getfield 28, 3) := dk_180 0 28 (dk_at dksX1_checkGood_0 1 rfl rfl)
theorem dX1_checkGood_4 : decode cX1_checkGood 4 = .ok (.iload_n 1, 1) := dk_27 (dk_at dksX1_checkGood_0 4 rfl rfl)
theorem dX1_checkGood_5 : decode cX1_checkGood 5 = .ok (.invokevirtual 128, 3) := dk_182 0 128 (dk_at dksX1_checkGood_0 5 rfl rfl)
theorem dX1_checkGood_8 : decode cX1_checkGood 8 = .ok (.invokestatic 132, 3) := dk_184 0 132 (dk_at dksX1_checkGood_0 8 rfl rfl)
theorem dX1_checkGood_11 : decode cX1_checkGood 11 = .ok (.return_, 1) := dk_177 (dk_at dksX1_checkGood_0 11 rfl rfl)
abbrev cX1_checkIndex : ByteArray := prog_1_method_9_code
def yX1_checkIndex : MethodName := ⟨RX1, "checkIndex", "(Z)V"⟩
def dkwX1_checkIndex_0 : List UInt8 := [26, 154, 0, 11, 187, 0, 105, 89, 183, 0, 107, 191, 177]
abbrev dktX1_checkIndex_0 : List UInt8 := dkwX1_checkIndex_0 ++ []
theorem dksX1_checkIndex_0 : cX1_checkIndex.data.toList.drop 0 = dktX1_checkIndex_0 := by decide +kernel
theorem dX1_checkIndex_0 : decode cX1_checkIndex 0 = .ok (.iload_n 0, 1) := dk_26 (dk_at dksX1_checkIndex_0 0 rfl rfl)
theorem dX1_checkIndex_1 : decode cX1_checkIndex 1 = .ok (.ifCond .ne 11, 3) := dk_154 0 11 (dk_at dksX1_checkIndex_0 1 rfl rfl)
theorem dX1_checkIndex_4 : decode cX1_checkIndex 4 = .ok (.new 105, 3) := dk_187 0 105 (dk_at dksX1_checkIndex_0 4 rfl rfl)
theorem dX1_checkIndex_7 : decode cX1_checkIndex 7 = .ok (.dup, 1) := dk_89 (dk_at dksX1_checkIndex_0 7 rfl rfl)
theorem dX1_checkIndex_8 : decode cX1_checkIndex 8 = .ok (.invokespecial 107, 3) := dk_183 0 107 (dk_at dksX1_checkIndex_0 8 rfl rfl)
theorem dX1_checkIndex_11 : decode cX1_checkIndex 11 = .ok (.athrow, 1) := dk_191 (dk_at dksX1_checkIndex_0 11 rfl rfl)
theorem dX1_checkIndex_12 : decode cX1_checkIndex 12 = .ok (.return_, 1) := dk_177 (dk_at dksX1_checkIndex_0 12 rfl rfl)
abbrev cX1_takeOut : ByteArray := prog_1_method_20_code
def yX1_takeOut : MethodName := ⟨RX1, "takeOut", "(I)I"⟩
def dkwX1_takeOut_1 : List UInt8 := [191]
abbrev dktX1_takeOut_1 : List UInt8 := dkwX1_takeOut_1 ++ []
def dkwX1_takeOut_0 : List UInt8 := [42, 27, 182, 0, 176, 42, 42, 182, 0, 160, 27, 182, 0, 183, 182, 0, 168, 172, 77, 42, 44, 182, 0, 172]
abbrev dktX1_takeOut_0 : List UInt8 := dkwX1_takeOut_0 ++ dktX1_takeOut_1
theorem dksX1_takeOut_0 : cX1_takeOut.data.toList.drop 0 = dktX1_takeOut_0 := by decide +kernel
theorem dksX1_takeOut_1 : cX1_takeOut.data.toList.drop 24 = dktX1_takeOut_1 := dk_seg dksX1_takeOut_0 24 rfl rfl
theorem dX1_takeOut_0 : decode cX1_takeOut 0 = .ok (.aload_n 0, 1) := dk_42 (dk_at dksX1_takeOut_0 0 rfl rfl)
theorem dX1_takeOut_1 : decode cX1_takeOut 1 = .ok (.iload_n 1, 1) := dk_27 (dk_at dksX1_takeOut_0 1 rfl rfl)
theorem dX1_takeOut_2 : decode cX1_takeOut 2 = .ok (.invokevirtual 176, 3) := dk_182 0 176 (dk_at dksX1_takeOut_0 2 rfl rfl)
theorem dX1_takeOut_5 : decode cX1_takeOut 5 = .ok (.aload_n 0, 1) := dk_42 (dk_at dksX1_takeOut_0 5 rfl rfl)
theorem dX1_takeOut_6 : decode cX1_takeOut 6 = .ok (.aload_n 0, 1) := dk_42 (dk_at dksX1_takeOut_0 6 rfl rfl)
theorem dX1_takeOut_7 : decode cX1_takeOut 7 = .ok (.invokevirtual 160, 3) := dk_182 0 160 (dk_at dksX1_takeOut_0 7 rfl rfl)
theorem dX1_takeOut_10 : decode cX1_takeOut 10 = .ok (.iload_n 1, 1) := dk_27 (dk_at dksX1_takeOut_0 10 rfl rfl)
theorem dX1_takeOut_11 : decode cX1_takeOut 11 = .ok (.invokevirtual 183, 3) := dk_182 0 183 (dk_at dksX1_takeOut_0 11 rfl rfl)
theorem dX1_takeOut_14 : decode cX1_takeOut 14 = .ok (.invokevirtual 168, 3) := dk_182 0 168 (dk_at dksX1_takeOut_0 14 rfl rfl)
theorem dX1_takeOut_17 : decode cX1_takeOut 17 = .ok (.ireturn, 1) := dk_172 (dk_at dksX1_takeOut_0 17 rfl rfl)
theorem dX1_takeOut_18 : decode cX1_takeOut 18 = .ok (.astore_n 2, 1) := dk_77 (dk_at dksX1_takeOut_0 18 rfl rfl)
theorem dX1_takeOut_19 : decode cX1_takeOut 19 = .ok (.aload_n 0, 1) := dk_42 (dk_at dksX1_takeOut_0 19 rfl rfl)
theorem dX1_takeOut_20 : decode cX1_takeOut 20 = .ok (.aload_n 2, 1) := dk_44 (dk_at dksX1_takeOut_0 20 rfl rfl)
theorem dX1_takeOut_21 : decode cX1_takeOut 21 = .ok (.invokevirtual 172, 3) := dk_182 0 172 (dk_at dksX1_takeOut_0 21 rfl rfl)
theorem dX1_takeOut_24 : decode cX1_takeOut 24 = .ok (.athrow, 1) := dk_191 (dk_at dksX1_takeOut_1 0 rfl rfl)
abbrev cX1_rate : ByteArray := prog_1_method_21_code
def yX1_rate : MethodName := ⟨RX1, "rate", "(II)I"⟩
def dkwX1_rate_1 : List UInt8 := [184, 0, 157, 42, 42, 182, 0, 160, 27, 28, 182, 0, 186, 182, 0, 168, 172, 78, 42, 45, 182, 0, 172, 191]
abbrev dktX1_rate_1 : List UInt8 := dkwX1_rate_1 ++ []
def dkwX1_rate_0 : List UInt8 := [27, 184, 0, 154, 153, 0, 17, 28, 3, 16, 100, 184, 0, 124, 153, 0, 7, 4, 167, 0, 4, 3]
abbrev dktX1_rate_0 : List UInt8 := dkwX1_rate_0 ++ dktX1_rate_1
theorem dksX1_rate_0 : cX1_rate.data.toList.drop 0 = dktX1_rate_0 := by decide +kernel
theorem dksX1_rate_1 : cX1_rate.data.toList.drop 22 = dktX1_rate_1 := dk_seg dksX1_rate_0 22 rfl rfl
theorem dX1_rate_0 : decode cX1_rate 0 = .ok (.iload_n 1, 1) := dk_27 (dk_at dksX1_rate_0 0 rfl rfl)
theorem dX1_rate_1 : decode cX1_rate 1 = .ok (.invokestatic 154, 3) := dk_184 0 154 (dk_at dksX1_rate_0 1 rfl rfl)
theorem dX1_rate_4 : decode cX1_rate 4 = .ok (.ifCond .eq 17, 3) := dk_153 0 17 (dk_at dksX1_rate_0 4 rfl rfl)
theorem dX1_rate_7 : decode cX1_rate 7 = .ok (.iload_n 2, 1) := dk_28 (dk_at dksX1_rate_0 7 rfl rfl)
theorem dX1_rate_8 : decode cX1_rate 8 = .ok (.iconst 0, 1) := dk_3 (dk_at dksX1_rate_0 8 rfl rfl)
theorem dX1_rate_9 : decode cX1_rate 9 = .ok (.bipush 100, 2) := dk_16 100 (dk_at dksX1_rate_0 9 rfl rfl)
theorem dX1_rate_11 : decode cX1_rate 11 = .ok (.invokestatic 124, 3) := dk_184 0 124 (dk_at dksX1_rate_0 11 rfl rfl)
theorem dX1_rate_14 : decode cX1_rate 14 = .ok (.ifCond .eq 7, 3) := dk_153 0 7 (dk_at dksX1_rate_0 14 rfl rfl)
theorem dX1_rate_17 : decode cX1_rate 17 = .ok (.iconst 1, 1) := dk_4 (dk_at dksX1_rate_0 17 rfl rfl)
theorem dX1_rate_18 : decode cX1_rate 18 = .ok (.goto 4, 3) := dk_167 0 4 (dk_at dksX1_rate_0 18 rfl rfl)
theorem dX1_rate_21 : decode cX1_rate 21 = .ok (.iconst 0, 1) := dk_3 (dk_at dksX1_rate_0 21 rfl rfl)
theorem dX1_rate_22 : decode cX1_rate 22 = .ok (.invokestatic 157, 3) := dk_184 0 157 (dk_at dksX1_rate_1 0 rfl rfl)
theorem dX1_rate_25 : decode cX1_rate 25 = .ok (.aload_n 0, 1) := dk_42 (dk_at dksX1_rate_1 3 rfl rfl)
theorem dX1_rate_26 : decode cX1_rate 26 = .ok (.aload_n 0, 1) := dk_42 (dk_at dksX1_rate_1 4 rfl rfl)
theorem dX1_rate_27 : decode cX1_rate 27 = .ok (.invokevirtual 160, 3) := dk_182 0 160 (dk_at dksX1_rate_1 5 rfl rfl)
theorem dX1_rate_30 : decode cX1_rate 30 = .ok (.iload_n 1, 1) := dk_27 (dk_at dksX1_rate_1 8 rfl rfl)
theorem dX1_rate_31 : decode cX1_rate 31 = .ok (.iload_n 2, 1) := dk_28 (dk_at dksX1_rate_1 9 rfl rfl)
theorem dX1_rate_32 : decode cX1_rate 32 = .ok (.invokevirtual 186, 3) := dk_182 0 186 (dk_at dksX1_rate_1 10 rfl rfl)
theorem dX1_rate_35 : decode cX1_rate 35 = .ok (.invokevirtual 168, 3) := dk_182 0 168 (dk_at dksX1_rate_1 13 rfl rfl)
theorem dX1_rate_38 : decode cX1_rate 38 = .ok (.ireturn, 1) := dk_172 (dk_at dksX1_rate_1 16 rfl rfl)
theorem dX1_rate_39 : decode cX1_rate 39 = .ok (.astore_n 3, 1) := dk_78 (dk_at dksX1_rate_1 17 rfl rfl)
theorem dX1_rate_40 : decode cX1_rate 40 = .ok (.aload_n 0, 1) := dk_42 (dk_at dksX1_rate_1 18 rfl rfl)
theorem dX1_rate_41 : decode cX1_rate 41 = .ok (.aload_n 3, 1) := dk_45 (dk_at dksX1_rate_1 19 rfl rfl)
theorem dX1_rate_42 : decode cX1_rate 42 = .ok (.invokevirtual 172, 3) := dk_182 0 172 (dk_at dksX1_rate_1 20 rfl rfl)
theorem dX1_rate_45 : decode cX1_rate 45 = .ok (.athrow, 1) := dk_191 (dk_at dksX1_rate_1 23 rfl rfl)
abbrev cX1_goodOf_2 : ByteArray := prog_1_method_22_code
def yX1_goodOf_2 : MethodName := ⟨RX1, "goodOf", "(II)I"⟩
def dkwX1_goodOf_2_4 : List UInt8 := [6, 6, 27, 3, 182, 0, 203, 172, 42, 180, 0, 28, 7, 8, 27, 4, 182, 0, 203, 172]
abbrev dktX1_goodOf_2_4 : List UInt8 := dkwX1_goodOf_2_4 ++ []
def dkwX1_goodOf_2_3 : List UInt8 := [180, 0, 28, 27, 182, 0, 200, 172, 42, 180, 0, 28, 5, 5, 27, 3, 182, 0, 203, 172, 42, 180, 0, 28]
abbrev dktX1_goodOf_2_3 : List UInt8 := dkwX1_goodOf_2_3 ++ dktX1_goodOf_2_4
def dkwX1_goodOf_2_2 : List UInt8 := [42, 180, 0, 28, 27, 182, 0, 189, 172, 42, 180, 0, 28, 180, 0, 192, 27, 50, 180, 0, 195, 172, 42]
abbrev dktX1_goodOf_2_2 : List UInt8 := dkwX1_goodOf_2_2 ++ dktX1_goodOf_2_3
def dkwX1_goodOf_2_1 : List UInt8 := [170, 0, 0, 0, 88, 0, 0, 0, 0, 0, 0, 0, 4, 0, 0, 0, 33, 0, 0, 0, 42, 0, 0, 0, 55, 0, 0, 0, 64, 0, 0, 0, 76]
abbrev dktX1_goodOf_2_1 : List UInt8 := dkwX1_goodOf_2_1 ++ dktX1_goodOf_2_2
def dkwX1_goodOf_2_0 : List UInt8 := [42, 27, 182, 0, 176, 28, 3, 8, 184, 0, 124, 184, 0, 157, 28]
abbrev dktX1_goodOf_2_0 : List UInt8 := dkwX1_goodOf_2_0 ++ dktX1_goodOf_2_1
theorem dksX1_goodOf_2_0 : cX1_goodOf_2.data.toList.drop 0 = dktX1_goodOf_2_0 := by decide +kernel
theorem dksX1_goodOf_2_1 : cX1_goodOf_2.data.toList.drop 15 = dktX1_goodOf_2_1 := dk_seg dksX1_goodOf_2_0 15 rfl rfl
theorem dksX1_goodOf_2_2 : cX1_goodOf_2.data.toList.drop 48 = dktX1_goodOf_2_2 := dk_seg dksX1_goodOf_2_1 33 rfl rfl
theorem dksX1_goodOf_2_3 : cX1_goodOf_2.data.toList.drop 71 = dktX1_goodOf_2_3 := dk_seg dksX1_goodOf_2_2 23 rfl rfl
theorem dksX1_goodOf_2_4 : cX1_goodOf_2.data.toList.drop 95 = dktX1_goodOf_2_4 := dk_seg dksX1_goodOf_2_3 24 rfl rfl
theorem dX1_goodOf_2_0 : decode cX1_goodOf_2 0 = .ok (.aload_n 0, 1) := dk_42 (dk_at dksX1_goodOf_2_0 0 rfl rfl)
theorem dX1_goodOf_2_1 : decode cX1_goodOf_2 1 = .ok (.iload_n 1, 1) := dk_27 (dk_at dksX1_goodOf_2_0 1 rfl rfl)
theorem dX1_goodOf_2_2 : decode cX1_goodOf_2 2 = .ok (.invokevirtual 176, 3) := dk_182 0 176 (dk_at dksX1_goodOf_2_0 2 rfl rfl)
theorem dX1_goodOf_2_5 : decode cX1_goodOf_2 5 = .ok (.iload_n 2, 1) := dk_28 (dk_at dksX1_goodOf_2_0 5 rfl rfl)
theorem dX1_goodOf_2_6 : decode cX1_goodOf_2 6 = .ok (.iconst 0, 1) := dk_3 (dk_at dksX1_goodOf_2_0 6 rfl rfl)
theorem dX1_goodOf_2_7 : decode cX1_goodOf_2 7 = .ok (.iconst 5, 1) := dk_8 (dk_at dksX1_goodOf_2_0 7 rfl rfl)
theorem dX1_goodOf_2_8 : decode cX1_goodOf_2 8 = .ok (.invokestatic 124, 3) := dk_184 0 124 (dk_at dksX1_goodOf_2_0 8 rfl rfl)
theorem dX1_goodOf_2_11 : decode cX1_goodOf_2 11 = .ok (.invokestatic 157, 3) := dk_184 0 157 (dk_at dksX1_goodOf_2_0 11 rfl rfl)
theorem dX1_goodOf_2_14 : decode cX1_goodOf_2 14 = .ok (.iload_n 2, 1) := dk_28 (dk_at dksX1_goodOf_2_0 14 rfl rfl)
theorem dX1_goodOf_2_15 : decode cX1_goodOf_2 15 = .ok (.tableswitch 88 0 4 #[33, 42, 55, 64, 76], 33) := by decide +kernel
theorem dX1_goodOf_2_48 : decode cX1_goodOf_2 48 = .ok (.aload_n 0, 1) := dk_42 (dk_at dksX1_goodOf_2_2 0 rfl rfl)
theorem dX1_goodOf_2_49 : decode cX1_goodOf_2 49 = .ok (.getfield 28, 3) := dk_180 0 28 (dk_at dksX1_goodOf_2_2 1 rfl rfl)
theorem dX1_goodOf_2_52 : decode cX1_goodOf_2 52 = .ok (.iload_n 1, 1) := dk_27 (dk_at dksX1_goodOf_2_2 4 rfl rfl)
theorem dX1_goodOf_2_53 : decode cX1_goodOf_2 53 = .ok (.invokevirtual 189, 3) := dk_182 0 189 (dk_at dksX1_goodOf_2_2 5 rfl rfl)
theorem dX1_goodOf_2_56 : decode cX1_goodOf_2 56 = .ok (.ireturn, 1) := dk_172 (dk_at dksX1_goodOf_2_2 8 rfl rfl)
theorem dX1_goodOf_2_57 : decode cX1_goodOf_2 57 = .ok (.aload_n 0, 1) := dk_42 (dk_at dksX1_goodOf_2_2 9 rfl rfl)
theorem dX1_goodOf_2_58 : decode cX1_goodOf_2 58 = .ok (.getfield 28, 3) := dk_180 0 28 (dk_at dksX1_goodOf_2_2 10 rfl rfl)
theorem dX1_goodOf_2_61 : decode cX1_goodOf_2 61 = .ok (.getfield 192, 3) := dk_180 0 192 (dk_at dksX1_goodOf_2_2 13 rfl rfl)
theorem dX1_goodOf_2_64 : decode cX1_goodOf_2 64 = .ok (.iload_n 1, 1) := dk_27 (dk_at dksX1_goodOf_2_2 16 rfl rfl)
theorem dX1_goodOf_2_65 : decode cX1_goodOf_2 65 = .ok (.aaload, 1) := dk_50 (dk_at dksX1_goodOf_2_2 17 rfl rfl)
theorem dX1_goodOf_2_66 : decode cX1_goodOf_2 66 = .ok (.getfield 195, 3) := dk_180 0 195 (dk_at dksX1_goodOf_2_2 18 rfl rfl)
theorem dX1_goodOf_2_69 : decode cX1_goodOf_2 69 = .ok (.ireturn, 1) := dk_172 (dk_at dksX1_goodOf_2_2 21 rfl rfl)
theorem dX1_goodOf_2_70 : decode cX1_goodOf_2 70 = .ok (.aload_n 0, 1) := dk_42 (dk_at dksX1_goodOf_2_2 22 rfl rfl)
theorem dX1_goodOf_2_71 : decode cX1_goodOf_2 71 = .ok (.getfield 28, 3) := dk_180 0 28 (dk_at dksX1_goodOf_2_3 0 rfl rfl)
theorem dX1_goodOf_2_74 : decode cX1_goodOf_2 74 = .ok (.iload_n 1, 1) := dk_27 (dk_at dksX1_goodOf_2_3 3 rfl rfl)
theorem dX1_goodOf_2_75 : decode cX1_goodOf_2 75 = .ok (.invokevirtual 200, 3) := dk_182 0 200 (dk_at dksX1_goodOf_2_3 4 rfl rfl)
theorem dX1_goodOf_2_78 : decode cX1_goodOf_2 78 = .ok (.ireturn, 1) := dk_172 (dk_at dksX1_goodOf_2_3 7 rfl rfl)
theorem dX1_goodOf_2_79 : decode cX1_goodOf_2 79 = .ok (.aload_n 0, 1) := dk_42 (dk_at dksX1_goodOf_2_3 8 rfl rfl)
theorem dX1_goodOf_2_80 : decode cX1_goodOf_2 80 = .ok (.getfield 28, 3) := dk_180 0 28 (dk_at dksX1_goodOf_2_3 9 rfl rfl)
theorem dX1_goodOf_2_83 : decode cX1_goodOf_2 83 = .ok (.iconst 2, 1) := dk_5 (dk_at dksX1_goodOf_2_3 12 rfl rfl)
theorem dX1_goodOf_2_84 : decode cX1_goodOf_2 84 = .ok (.iconst 2, 1) := dk_5 (dk_at dksX1_goodOf_2_3 13 rfl rfl)
theorem dX1_goodOf_2_85 : decode cX1_goodOf_2 85 = .ok (.iload_n 1, 1) := dk_27 (dk_at dksX1_goodOf_2_3 14 rfl rfl)
theorem dX1_goodOf_2_86 : decode cX1_goodOf_2 86 = .ok (.iconst 0, 1) := dk_3 (dk_at dksX1_goodOf_2_3 15 rfl rfl)
theorem dX1_goodOf_2_87 : decode cX1_goodOf_2 87 = .ok (.invokevirtual 203, 3) := dk_182 0 203 (dk_at dksX1_goodOf_2_3 16 rfl rfl)
theorem dX1_goodOf_2_90 : decode cX1_goodOf_2 90 = .ok (.ireturn, 1) := dk_172 (dk_at dksX1_goodOf_2_3 19 rfl rfl)
theorem dX1_goodOf_2_91 : decode cX1_goodOf_2 91 = .ok (.aload_n 0, 1) := dk_42 (dk_at dksX1_goodOf_2_3 20 rfl rfl)
theorem dX1_goodOf_2_92 : decode cX1_goodOf_2 92 = .ok (.getfield 28, 3) := dk_180 0 28 (dk_at dksX1_goodOf_2_3 21 rfl rfl)
theorem dX1_goodOf_2_95 : decode cX1_goodOf_2 95 = .ok (.iconst 3, 1) := dk_6 (dk_at dksX1_goodOf_2_4 0 rfl rfl)
theorem dX1_goodOf_2_96 : decode cX1_goodOf_2 96 = .ok (.iconst 3, 1) := dk_6 (dk_at dksX1_goodOf_2_4 1 rfl rfl)
theorem dX1_goodOf_2_97 : decode cX1_goodOf_2 97 = .ok (.iload_n 1, 1) := dk_27 (dk_at dksX1_goodOf_2_4 2 rfl rfl)
theorem dX1_goodOf_2_98 : decode cX1_goodOf_2 98 = .ok (.iconst 0, 1) := dk_3 (dk_at dksX1_goodOf_2_4 3 rfl rfl)
theorem dX1_goodOf_2_99 : decode cX1_goodOf_2 99 = .ok (.invokevirtual 203, 3) := dk_182 0 203 (dk_at dksX1_goodOf_2_4 4 rfl rfl)
theorem dX1_goodOf_2_102 : decode cX1_goodOf_2 102 = .ok (.ireturn, 1) := dk_172 (dk_at dksX1_goodOf_2_4 7 rfl rfl)
theorem dX1_goodOf_2_103 : decode cX1_goodOf_2 103 = .ok (.aload_n 0, 1) := dk_42 (dk_at dksX1_goodOf_2_4 8 rfl rfl)
theorem dX1_goodOf_2_104 : decode cX1_goodOf_2 104 = .ok (.getfield 28, 3) := dk_180 0 28 (dk_at dksX1_goodOf_2_4 9 rfl rfl)
theorem dX1_goodOf_2_107 : decode cX1_goodOf_2 107 = .ok (.iconst 4, 1) := dk_7 (dk_at dksX1_goodOf_2_4 12 rfl rfl)
theorem dX1_goodOf_2_108 : decode cX1_goodOf_2 108 = .ok (.iconst 5, 1) := dk_8 (dk_at dksX1_goodOf_2_4 13 rfl rfl)
theorem dX1_goodOf_2_109 : decode cX1_goodOf_2 109 = .ok (.iload_n 1, 1) := dk_27 (dk_at dksX1_goodOf_2_4 14 rfl rfl)
theorem dX1_goodOf_2_110 : decode cX1_goodOf_2 110 = .ok (.iconst 1, 1) := dk_4 (dk_at dksX1_goodOf_2_4 15 rfl rfl)
theorem dX1_goodOf_2_111 : decode cX1_goodOf_2 111 = .ok (.invokevirtual 203, 3) := dk_182 0 203 (dk_at dksX1_goodOf_2_4 16 rfl rfl)
theorem dX1_goodOf_2_114 : decode cX1_goodOf_2 114 = .ok (.ireturn, 1) := dk_172 (dk_at dksX1_goodOf_2_4 19 rfl rfl)
abbrev cX1_chestAt : ByteArray := prog_1_method_23_code
def yX1_chestAt : MethodName := ⟨RX1, "chestAt", "(II)I"⟩
def dkwX1_chestAt_1 : List UInt8 := [184, 0, 210, 42, 180, 0, 28, 180, 0, 213, 27, 50, 28, 50, 180, 0, 217, 172]
abbrev dktX1_chestAt_1 : List UInt8 := dkwX1_chestAt_1 ++ []
def dkwX1_chestAt_0 : List UInt8 := [27, 184, 0, 154, 184, 0, 157, 28, 3, 42, 180, 0, 28, 27, 182, 0, 207, 4, 100, 184, 0, 124]
abbrev dktX1_chestAt_0 : List UInt8 := dkwX1_chestAt_0 ++ dktX1_chestAt_1
theorem dksX1_chestAt_0 : cX1_chestAt.data.toList.drop 0 = dktX1_chestAt_0 := by decide +kernel
theorem dksX1_chestAt_1 : cX1_chestAt.data.toList.drop 22 = dktX1_chestAt_1 := dk_seg dksX1_chestAt_0 22 rfl rfl
theorem dX1_chestAt_0 : decode cX1_chestAt 0 = .ok (.iload_n 1, 1) := dk_27 (dk_at dksX1_chestAt_0 0 rfl rfl)
theorem dX1_chestAt_1 : decode cX1_chestAt 1 = .ok (.invokestatic 154, 3) := dk_184 0 154 (dk_at dksX1_chestAt_0 1 rfl rfl)
theorem dX1_chestAt_4 : decode cX1_chestAt 4 = .ok (.invokestatic 157, 3) := dk_184 0 157 (dk_at dksX1_chestAt_0 4 rfl rfl)
theorem dX1_chestAt_7 : decode cX1_chestAt 7 = .ok (.iload_n 2, 1) := dk_28 (dk_at dksX1_chestAt_0 7 rfl rfl)
theorem dX1_chestAt_8 : decode cX1_chestAt 8 = .ok (.iconst 0, 1) := dk_3 (dk_at dksX1_chestAt_0 8 rfl rfl)
theorem dX1_chestAt_9 : decode cX1_chestAt 9 = .ok (.aload_n 0, 1) := dk_42 (dk_at dksX1_chestAt_0 9 rfl rfl)
theorem dX1_chestAt_10 : decode cX1_chestAt 10 = .ok (.getfield 28, 3) := dk_180 0 28 (dk_at dksX1_chestAt_0 10 rfl rfl)
theorem dX1_chestAt_13 : decode cX1_chestAt 13 = .ok (.iload_n 1, 1) := dk_27 (dk_at dksX1_chestAt_0 13 rfl rfl)
theorem dX1_chestAt_14 : decode cX1_chestAt 14 = .ok (.invokevirtual 207, 3) := dk_182 0 207 (dk_at dksX1_chestAt_0 14 rfl rfl)
theorem dX1_chestAt_17 : decode cX1_chestAt 17 = .ok (.iconst 1, 1) := dk_4 (dk_at dksX1_chestAt_0 17 rfl rfl)
theorem dX1_chestAt_18 : decode cX1_chestAt 18 = .ok (.isub, 1) := dk_100 (dk_at dksX1_chestAt_0 18 rfl rfl)
theorem dX1_chestAt_19 : decode cX1_chestAt 19 = .ok (.invokestatic 124, 3) := dk_184 0 124 (dk_at dksX1_chestAt_0 19 rfl rfl)
theorem dX1_chestAt_22 : decode cX1_chestAt 22 = .ok (.invokestatic 210, 3) := dk_184 0 210 (dk_at dksX1_chestAt_1 0 rfl rfl)
theorem dX1_chestAt_25 : decode cX1_chestAt 25 = .ok (.aload_n 0, 1) := dk_42 (dk_at dksX1_chestAt_1 3 rfl rfl)
theorem dX1_chestAt_26 : decode cX1_chestAt 26 = .ok (.getfield 28, 3) := dk_180 0 28 (dk_at dksX1_chestAt_1 4 rfl rfl)
theorem dX1_chestAt_29 : decode cX1_chestAt 29 = .ok (.getfield 213, 3) := dk_180 0 213 (dk_at dksX1_chestAt_1 7 rfl rfl)
theorem dX1_chestAt_32 : decode cX1_chestAt 32 = .ok (.iload_n 1, 1) := dk_27 (dk_at dksX1_chestAt_1 10 rfl rfl)
theorem dX1_chestAt_33 : decode cX1_chestAt 33 = .ok (.aaload, 1) := dk_50 (dk_at dksX1_chestAt_1 11 rfl rfl)
theorem dX1_chestAt_34 : decode cX1_chestAt 34 = .ok (.iload_n 2, 1) := dk_28 (dk_at dksX1_chestAt_1 12 rfl rfl)
theorem dX1_chestAt_35 : decode cX1_chestAt 35 = .ok (.aaload, 1) := dk_50 (dk_at dksX1_chestAt_1 13 rfl rfl)
theorem dX1_chestAt_36 : decode cX1_chestAt 36 = .ok (.getfield 217, 3) := dk_180 0 217 (dk_at dksX1_chestAt_1 14 rfl rfl)
theorem dX1_chestAt_39 : decode cX1_chestAt 39 = .ok (.ireturn, 1) := dk_172 (dk_at dksX1_chestAt_1 17 rfl rfl)
abbrev cX1_checkElement : ByteArray := prog_1_method_7_code
def yX1_checkElement : MethodName := ⟨RX1, "checkElement", "(Z)V"⟩
def dkwX1_checkElement_0 : List UInt8 := [26, 154, 0, 11, 187, 0, 99, 89, 183, 0, 101, 191, 177]
abbrev dktX1_checkElement_0 : List UInt8 := dkwX1_checkElement_0 ++ []
theorem dksX1_checkElement_0 : cX1_checkElement.data.toList.drop 0 = dktX1_checkElement_0 := by decide +kernel
theorem dX1_checkElement_0 : decode cX1_checkElement 0 = .ok (.iload_n 0, 1) := dk_26 (dk_at dksX1_checkElement_0 0 rfl rfl)
theorem dX1_checkElement_1 : decode cX1_checkElement 1 = .ok (.ifCond .ne 11, 3) := dk_154 0 11 (dk_at dksX1_checkElement_0 1 rfl rfl)
theorem dX1_checkElement_4 : decode cX1_checkElement 4 = .ok (.new 99, 3) := dk_187 0 99 (dk_at dksX1_checkElement_0 4 rfl rfl)
theorem dX1_checkElement_7 : decode cX1_checkElement 7 = .ok (.dup, 1) := dk_89 (dk_at dksX1_checkElement_0 7 rfl rfl)
theorem dX1_checkElement_8 : decode cX1_checkElement 8 = .ok (.invokespecial 101, 3) := dk_183 0 101 (dk_at dksX1_checkElement_0 8 rfl rfl)
theorem dX1_checkElement_11 : decode cX1_checkElement 11 = .ok (.athrow, 1) := dk_191 (dk_at dksX1_checkElement_0 11 rfl rfl)
theorem dX1_checkElement_12 : decode cX1_checkElement 12 = .ok (.return_, 1) := dk_177 (dk_at dksX1_checkElement_0 12 rfl rfl)
abbrev cX1_tithe : ByteArray := prog_1_method_24_code
def yX1_tithe : MethodName := ⟨RX1, "tithe", "(I)F"⟩
def dkwX1_tithe_0 : List UInt8 := [42, 27, 182, 0, 176, 42, 180, 0, 28, 27, 182, 0, 220, 174]
abbrev dktX1_tithe_0 : List UInt8 := dkwX1_tithe_0 ++ []
theorem dksX1_tithe_0 : cX1_tithe.data.toList.drop 0 = dktX1_tithe_0 := by decide +kernel
theorem dX1_tithe_0 : decode cX1_tithe 0 = .ok (.aload_n 0, 1) := dk_42 (dk_at dksX1_tithe_0 0 rfl rfl)
theorem dX1_tithe_1 : decode cX1_tithe 1 = .ok (.iload_n 1, 1) := dk_27 (dk_at dksX1_tithe_0 1 rfl rfl)
theorem dX1_tithe_2 : decode cX1_tithe 2 = .ok (.invokevirtual 176, 3) := dk_182 0 176 (dk_at dksX1_tithe_0 2 rfl rfl)
theorem dX1_tithe_5 : decode cX1_tithe 5 = .ok (.aload_n 0, 1) := dk_42 (dk_at dksX1_tithe_0 5 rfl rfl)
theorem dX1_tithe_6 : decode cX1_tithe 6 = .ok (.getfield 28, 3) := dk_180 0 28 (dk_at dksX1_tithe_0 6 rfl rfl)
theorem dX1_tithe_9 : decode cX1_tithe 9 = .ok (.iload_n 1, 1) := dk_27 (dk_at dksX1_tithe_0 9 rfl rfl)
theorem dX1_tithe_10 : decode cX1_tithe 10 = .ok (.invokevirtual 220, 3) := dk_182 0 220 (dk_at dksX1_tithe_0 10 rfl rfl)
theorem dX1_tithe_13 : decode cX1_tithe 13 = .ok (.freturn, 1) := dk_174 (dk_at dksX1_tithe_0 13 rfl rfl)
abbrev cX1_rateBits : ByteArray := prog_1_method_25_code
def yX1_rateBits : MethodName := ⟨RX1, "rateBits", "(I)I"⟩
def dkwX1_rateBits_0 : List UInt8 := [27, 184, 0, 154, 184, 0, 157, 42, 180, 0, 28, 180, 0, 224, 27, 48, 184, 0, 228, 172]
abbrev dktX1_rateBits_0 : List UInt8 := dkwX1_rateBits_0 ++ []
theorem dksX1_rateBits_0 : cX1_rateBits.data.toList.drop 0 = dktX1_rateBits_0 := by decide +kernel
theorem dX1_rateBits_0 : decode cX1_rateBits 0 = .ok (.iload_n 1, 1) := dk_27 (dk_at dksX1_rateBits_0 0 rfl rfl)
theorem dX1_rateBits_1 : decode cX1_rateBits 1 = .ok (.invokestatic 154, 3) := dk_184 0 154 (dk_at dksX1_rateBits_0 1 rfl rfl)
theorem dX1_rateBits_4 : decode cX1_rateBits 4 = .ok (.invokestatic 157, 3) := dk_184 0 157 (dk_at dksX1_rateBits_0 4 rfl rfl)
theorem dX1_rateBits_7 : decode cX1_rateBits 7 = .ok (.aload_n 0, 1) := dk_42 (dk_at dksX1_rateBits_0 7 rfl rfl)
theorem dX1_rateBits_8 : decode cX1_rateBits 8 = .ok (.getfield 28, 3) := dk_180 0 28 (dk_at dksX1_rateBits_0 8 rfl rfl)
theorem dX1_rateBits_11 : decode cX1_rateBits 11 = .ok (.getfield 224, 3) := dk_180 0 224 (dk_at dksX1_rateBits_0 11 rfl rfl)
theorem dX1_rateBits_14 : decode cX1_rateBits 14 = .ok (.iload_n 1, 1) := dk_27 (dk_at dksX1_rateBits_0 14 rfl rfl)
theorem dX1_rateBits_15 : decode cX1_rateBits 15 = .ok (.faload, 1) := dk_48 (dk_at dksX1_rateBits_0 15 rfl rfl)
theorem dX1_rateBits_16 : decode cX1_rateBits 16 = .ok (.invokestatic 228, 3) := dk_184 0 228 (dk_at dksX1_rateBits_0 16 rfl rfl)
theorem dX1_rateBits_19 : decode cX1_rateBits 19 = .ok (.ireturn, 1) := dk_172 (dk_at dksX1_rateBits_0 19 rfl rfl)
abbrev cX1_add : ByteArray := prog_1_method_26_code
def yX1_add : MethodName := ⟨RX1, "add", "(III)I"⟩
def dkwX1_add_1 : List UInt8 := [182, 0, 240, 182, 0, 168, 172, 58, 4, 42, 25, 4, 182, 0, 172, 191]
abbrev dktX1_add_1 : List UInt8 := dkwX1_add_1 ++ []
def dkwX1_add_0 : List UInt8 := [27, 184, 0, 234, 184, 0, 157, 42, 42, 182, 0, 160, 42, 180, 0, 28, 180, 0, 237, 27, 28, 29]
abbrev dktX1_add_0 : List UInt8 := dkwX1_add_0 ++ dktX1_add_1
theorem dksX1_add_0 : cX1_add.data.toList.drop 0 = dktX1_add_0 := by decide +kernel
theorem dksX1_add_1 : cX1_add.data.toList.drop 22 = dktX1_add_1 := dk_seg dksX1_add_0 22 rfl rfl
theorem dX1_add_0 : decode cX1_add 0 = .ok (.iload_n 1, 1) := dk_27 (dk_at dksX1_add_0 0 rfl rfl)
theorem dX1_add_1 : decode cX1_add 1 = .ok (.invokestatic 234, 3) := dk_184 0 234 (dk_at dksX1_add_0 1 rfl rfl)
theorem dX1_add_4 : decode cX1_add 4 = .ok (.invokestatic 157, 3) := dk_184 0 157 (dk_at dksX1_add_0 4 rfl rfl)
theorem dX1_add_7 : decode cX1_add 7 = .ok (.aload_n 0, 1) := dk_42 (dk_at dksX1_add_0 7 rfl rfl)
theorem dX1_add_8 : decode cX1_add 8 = .ok (.aload_n 0, 1) := dk_42 (dk_at dksX1_add_0 8 rfl rfl)
theorem dX1_add_9 : decode cX1_add 9 = .ok (.invokevirtual 160, 3) := dk_182 0 160 (dk_at dksX1_add_0 9 rfl rfl)
theorem dX1_add_12 : decode cX1_add 12 = .ok (.aload_n 0, 1) := dk_42 (dk_at dksX1_add_0 12 rfl rfl)
theorem dX1_add_13 : decode cX1_add 13 = .ok (.getfield 28, 3) := dk_180 0 28 (dk_at dksX1_add_0 13 rfl rfl)
theorem dX1_add_16 : decode cX1_add 16 = .ok (.getfield 237, 3) := dk_180 0 237 (dk_at dksX1_add_0 16 rfl rfl)
theorem dX1_add_19 : decode cX1_add 19 = .ok (.iload_n 1, 1) := dk_27 (dk_at dksX1_add_0 19 rfl rfl)
theorem dX1_add_20 : decode cX1_add 20 = .ok (.iload_n 2, 1) := dk_28 (dk_at dksX1_add_0 20 rfl rfl)
theorem dX1_add_21 : decode cX1_add 21 = .ok (.iload_n 3, 1) := dk_29 (dk_at dksX1_add_0 21 rfl rfl)
theorem dX1_add_22 : decode cX1_add 22 = .ok (.invokevirtual 240, 3) := dk_182 0 240 (dk_at dksX1_add_1 0 rfl rfl)
theorem dX1_add_25 : decode cX1_add 25 = .ok (.invokevirtual 168, 3) := dk_182 0 168 (dk_at dksX1_add_1 3 rfl rfl)
theorem dX1_add_28 : decode cX1_add 28 = .ok (.ireturn, 1) := dk_172 (dk_at dksX1_add_1 6 rfl rfl)
theorem dX1_add_29 : decode cX1_add 29 = .ok (.astore 4, 2) := dk_58 4 (dk_at dksX1_add_1 7 rfl rfl)
theorem dX1_add_31 : decode cX1_add 31 = .ok (.aload_n 0, 1) := dk_42 (dk_at dksX1_add_1 9 rfl rfl)
theorem dX1_add_32 : decode cX1_add 32 = .ok (.aload 4, 2) := dk_25 4 (dk_at dksX1_add_1 10 rfl rfl)
theorem dX1_add_34 : decode cX1_add 34 = .ok (.invokevirtual 172, 3) := dk_182 0 172 (dk_at dksX1_add_1 12 rfl rfl)
theorem dX1_add_37 : decode cX1_add 37 = .ok (.athrow, 1) := dk_191 (dk_at dksX1_add_1 15 rfl rfl)
abbrev cX1_isSort : ByteArray := prog_1_method_13_code
def yX1_isSort : MethodName := ⟨RX1, "isSort", "(I)Z"⟩
def dkwX1_isSort_0 : List UInt8 := [26, 3, 16, 9, 184, 0, 124, 172]
abbrev dktX1_isSort_0 : List UInt8 := dkwX1_isSort_0 ++ []
theorem dksX1_isSort_0 : cX1_isSort.data.toList.drop 0 = dktX1_isSort_0 := by decide +kernel
theorem dX1_isSort_0 : decode cX1_isSort 0 = .ok (.iload_n 0, 1) := dk_26 (dk_at dksX1_isSort_0 0 rfl rfl)
theorem dX1_isSort_1 : decode cX1_isSort 1 = .ok (.iconst 0, 1) := dk_3 (dk_at dksX1_isSort_0 1 rfl rfl)
theorem dX1_isSort_2 : decode cX1_isSort 2 = .ok (.bipush 9, 2) := dk_16 9 (dk_at dksX1_isSort_0 2 rfl rfl)
theorem dX1_isSort_4 : decode cX1_isSort 4 = .ok (.invokestatic 124, 3) := dk_184 0 124 (dk_at dksX1_isSort_0 4 rfl rfl)
theorem dX1_isSort_7 : decode cX1_isSort 7 = .ok (.ireturn, 1) := dk_172 (dk_at dksX1_isSort_0 7 rfl rfl)
abbrev cX1_insert : ByteArray := prog_1_method_27_code
def yX1_insert : MethodName := ⟨RX1, "insert", "(IIII)I"⟩
def dkwX1_insert_1 : List UInt8 := [182, 0, 160, 27, 28, 29, 21, 4, 182, 0, 240, 182, 0, 168, 172, 58, 5, 42, 25, 5, 182, 0, 172, 191]
abbrev dktX1_insert_1 : List UInt8 := dkwX1_insert_1 ++ []
def dkwX1_insert_0 : List UInt8 := [27, 3, 42, 180, 0, 28, 180, 0, 237, 184, 0, 124, 184, 0, 132, 28, 184, 0, 234, 184, 0, 157, 42, 42]
abbrev dktX1_insert_0 : List UInt8 := dkwX1_insert_0 ++ dktX1_insert_1
theorem dksX1_insert_0 : cX1_insert.data.toList.drop 0 = dktX1_insert_0 := by decide +kernel
theorem dksX1_insert_1 : cX1_insert.data.toList.drop 24 = dktX1_insert_1 := dk_seg dksX1_insert_0 24 rfl rfl
theorem dX1_insert_0 : decode cX1_insert 0 = .ok (.iload_n 1, 1) := dk_27 (dk_at dksX1_insert_0 0 rfl rfl)
theorem dX1_insert_1 : decode cX1_insert 1 = .ok (.iconst 0, 1) := dk_3 (dk_at dksX1_insert_0 1 rfl rfl)
theorem dX1_insert_2 : decode cX1_insert 2 = .ok (.aload_n 0, 1) := dk_42 (dk_at dksX1_insert_0 2 rfl rfl)
theorem dX1_insert_3 : decode cX1_insert 3 = .ok (.getfield 28, 3) := dk_180 0 28 (dk_at dksX1_insert_0 3 rfl rfl)
theorem dX1_insert_6 : decode cX1_insert 6 = .ok (.getfield 237, 3) := dk_180 0 237 (dk_at dksX1_insert_0 6 rfl rfl)
theorem dX1_insert_9 : decode cX1_insert 9 = .ok (.invokestatic 124, 3) := dk_184 0 124 (dk_at dksX1_insert_0 9 rfl rfl)
theorem dX1_insert_12 : decode cX1_insert 12 = .ok (.invokestatic 132, 3) := dk_184 0 132 (dk_at dksX1_insert_0 12 rfl rfl)
theorem dX1_insert_15 : decode cX1_insert 15 = .ok (.iload_n 2, 1) := dk_28 (dk_at dksX1_insert_0 15 rfl rfl)
theorem dX1_insert_16 : decode cX1_insert 16 = .ok (.invokestatic 234, 3) := dk_184 0 234 (dk_at dksX1_insert_0 16 rfl rfl)
theorem dX1_insert_19 : decode cX1_insert 19 = .ok (.invokestatic 157, 3) := dk_184 0 157 (dk_at dksX1_insert_0 19 rfl rfl)
theorem dX1_insert_22 : decode cX1_insert 22 = .ok (.aload_n 0, 1) := dk_42 (dk_at dksX1_insert_0 22 rfl rfl)
theorem dX1_insert_23 : decode cX1_insert 23 = .ok (.aload_n 0, 1) := dk_42 (dk_at dksX1_insert_0 23 rfl rfl)
theorem dX1_insert_24 : decode cX1_insert 24 = .ok (.invokevirtual 160, 3) := dk_182 0 160 (dk_at dksX1_insert_1 0 rfl rfl)
theorem dX1_insert_27 : decode cX1_insert 27 = .ok (.iload_n 1, 1) := dk_27 (dk_at dksX1_insert_1 3 rfl rfl)
theorem dX1_insert_28 : decode cX1_insert 28 = .ok (.iload_n 2, 1) := dk_28 (dk_at dksX1_insert_1 4 rfl rfl)
theorem dX1_insert_29 : decode cX1_insert 29 = .ok (.iload_n 3, 1) := dk_29 (dk_at dksX1_insert_1 5 rfl rfl)
theorem dX1_insert_30 : decode cX1_insert 30 = .ok (.iload 4, 2) := dk_21 4 (dk_at dksX1_insert_1 6 rfl rfl)
theorem dX1_insert_32 : decode cX1_insert 32 = .ok (.invokevirtual 240, 3) := dk_182 0 240 (dk_at dksX1_insert_1 8 rfl rfl)
theorem dX1_insert_35 : decode cX1_insert 35 = .ok (.invokevirtual 168, 3) := dk_182 0 168 (dk_at dksX1_insert_1 11 rfl rfl)
theorem dX1_insert_38 : decode cX1_insert 38 = .ok (.ireturn, 1) := dk_172 (dk_at dksX1_insert_1 14 rfl rfl)
theorem dX1_insert_39 : decode cX1_insert 39 = .ok (.astore 5, 2) := dk_58 5 (dk_at dksX1_insert_1 15 rfl rfl)
theorem dX1_insert_41 : decode cX1_insert 41 = .ok (.aload_n 0, 1) := dk_42 (dk_at dksX1_insert_1 17 rfl rfl)
theorem dX1_insert_42 : decode cX1_insert 42 = .ok (.aload 5, 2) := dk_25 5 (dk_at dksX1_insert_1 18 rfl rfl)
theorem dX1_insert_44 : decode cX1_insert 44 = .ok (.invokevirtual 172, 3) := dk_182 0 172 (dk_at dksX1_insert_1 20 rfl rfl)
theorem dX1_insert_47 : decode cX1_insert 47 = .ok (.athrow, 1) := dk_191 (dk_at dksX1_insert_1 23 rfl rfl)
abbrev cX1_remove : ByteArray := prog_1_method_29_code
def yX1_remove : MethodName := ⟨RX1, "remove", "(I)I"⟩
def dkwX1_remove_0 : List UInt8 := [42, 27, 182, 0, 244, 42, 42, 182, 0, 160, 27, 182, 0, 247, 182, 0, 168, 172]
abbrev dktX1_remove_0 : List UInt8 := dkwX1_remove_0 ++ []
theorem dksX1_remove_0 : cX1_remove.data.toList.drop 0 = dktX1_remove_0 := by decide +kernel
theorem dX1_remove_0 : decode cX1_remove 0 = .ok (.aload_n 0, 1) := dk_42 (dk_at dksX1_remove_0 0 rfl rfl)
theorem dX1_remove_1 : decode cX1_remove 1 = .ok (.iload_n 1, 1) := dk_27 (dk_at dksX1_remove_0 1 rfl rfl)
theorem dX1_remove_2 : decode cX1_remove 2 = .ok (.invokevirtual 244, 3) := dk_182 0 244 (dk_at dksX1_remove_0 2 rfl rfl)
theorem dX1_remove_5 : decode cX1_remove 5 = .ok (.aload_n 0, 1) := dk_42 (dk_at dksX1_remove_0 5 rfl rfl)
theorem dX1_remove_6 : decode cX1_remove 6 = .ok (.aload_n 0, 1) := dk_42 (dk_at dksX1_remove_0 6 rfl rfl)
theorem dX1_remove_7 : decode cX1_remove 7 = .ok (.invokevirtual 160, 3) := dk_182 0 160 (dk_at dksX1_remove_0 7 rfl rfl)
theorem dX1_remove_10 : decode cX1_remove 10 = .ok (.iload_n 1, 1) := dk_27 (dk_at dksX1_remove_0 10 rfl rfl)
theorem dX1_remove_11 : decode cX1_remove 11 = .ok (.invokevirtual 247, 3) := dk_182 0 247 (dk_at dksX1_remove_0 11 rfl rfl)
theorem dX1_remove_14 : decode cX1_remove 14 = .ok (.invokevirtual 168, 3) := dk_182 0 168 (dk_at dksX1_remove_0 14 rfl rfl)
theorem dX1_remove_17 : decode cX1_remove 17 = .ok (.ireturn, 1) := dk_172 (dk_at dksX1_remove_0 17 rfl rfl)
abbrev cX1_checkPlace : ByteArray := prog_1_method_28_code
def yX1_checkPlace : MethodName := ⟨RX1, "checkPlace", "(I)V"⟩
def dkwX1_checkPlace_0 : List UInt8 := [27, 3, 42, 180, 0, 28, 180, 0, 237, 4, 100, 184, 0, 124, 184, 0, 132, 177]
abbrev dktX1_checkPlace_0 : List UInt8 := dkwX1_checkPlace_0 ++ []
theorem dksX1_checkPlace_0 : cX1_checkPlace.data.toList.drop 0 = dktX1_checkPlace_0 := by decide +kernel
theorem dX1_checkPlace_0 : decode cX1_checkPlace 0 = .ok (.iload_n 1, 1) := dk_27 (dk_at dksX1_checkPlace_0 0 rfl rfl)
theorem dX1_checkPlace_1 : decode cX1_checkPlace 1 = .ok (.iconst 0, 1) := dk_3 (dk_at dksX1_checkPlace_0 1 rfl rfl)
theorem dX1_checkPlace_2 : decode cX1_checkPlace 2 = .ok (.aload_n 0, 1) := dk_42 (dk_at dksX1_checkPlace_0 2 rfl rfl)
theorem dX1_checkPlace_3 : decode cX1_checkPlace 3 = .ok (.getfield 28, 3) := dk_180 0 28 (dk_at dksX1_checkPlace_0 3 rfl rfl)
theorem dX1_checkPlace_6 : decode cX1_checkPlace 6 = .ok (.getfield 237, 3) := dk_180 0 237 (dk_at dksX1_checkPlace_0 6 rfl rfl)
theorem dX1_checkPlace_9 : decode cX1_checkPlace 9 = .ok (.iconst 1, 1) := dk_4 (dk_at dksX1_checkPlace_0 9 rfl rfl)
theorem dX1_checkPlace_10 : decode cX1_checkPlace 10 = .ok (.isub, 1) := dk_100 (dk_at dksX1_checkPlace_0 10 rfl rfl)
theorem dX1_checkPlace_11 : decode cX1_checkPlace 11 = .ok (.invokestatic 124, 3) := dk_184 0 124 (dk_at dksX1_checkPlace_0 11 rfl rfl)
theorem dX1_checkPlace_14 : decode cX1_checkPlace 14 = .ok (.invokestatic 132, 3) := dk_184 0 132 (dk_at dksX1_checkPlace_0 14 rfl rfl)
theorem dX1_checkPlace_17 : decode cX1_checkPlace 17 = .ok (.return_, 1) := dk_177 (dk_at dksX1_checkPlace_0 17 rfl rfl)
abbrev cX1_clauseOf : ByteArray := prog_1_method_30_code
def yX1_clauseOf : MethodName := ⟨RX1, "clauseOf", "(II)I"⟩
def dkwX1_clauseOf_4 : List UInt8 := [153, 0, 15, 42, 180, 0, 65, 180, 1, 9, 27, 46, 167, 0, 4, 2, 172]
abbrev dktX1_clauseOf_4 : List UInt8 := dkwX1_clauseOf_4 ++ []
def dkwX1_clauseOf_3 : List UInt8 := [180, 1, 1, 27, 46, 172, 42, 180, 0, 65, 42, 180, 0, 28, 182, 1, 4, 42, 180, 0, 65, 180, 1, 5]
abbrev dktX1_clauseOf_3 : List UInt8 := dkwX1_clauseOf_3 ++ dktX1_clauseOf_4
def dkwX1_clauseOf_2 : List UInt8 := [42, 180, 0, 28, 180, 0, 250, 27, 46, 172, 42, 180, 0, 28, 180, 0, 254, 27, 46, 172, 42, 180, 0, 28]
abbrev dktX1_clauseOf_2 : List UInt8 := dkwX1_clauseOf_2 ++ dktX1_clauseOf_3
def dkwX1_clauseOf_1 : List UInt8 := [170, 0, 0, 0, 55, 0, 0, 0, 0, 0, 0, 0, 2, 0, 0, 0, 25, 0, 0, 0, 35, 0, 0, 0, 45]
abbrev dktX1_clauseOf_1 : List UInt8 := dkwX1_clauseOf_1 ++ dktX1_clauseOf_2
def dkwX1_clauseOf_0 : List UInt8 := [42, 27, 182, 0, 244, 28, 3, 6, 184, 0, 124, 184, 0, 157, 28]
abbrev dktX1_clauseOf_0 : List UInt8 := dkwX1_clauseOf_0 ++ dktX1_clauseOf_1
theorem dksX1_clauseOf_0 : cX1_clauseOf.data.toList.drop 0 = dktX1_clauseOf_0 := by decide +kernel
theorem dksX1_clauseOf_1 : cX1_clauseOf.data.toList.drop 15 = dktX1_clauseOf_1 := dk_seg dksX1_clauseOf_0 15 rfl rfl
theorem dksX1_clauseOf_2 : cX1_clauseOf.data.toList.drop 40 = dktX1_clauseOf_2 := dk_seg dksX1_clauseOf_1 25 rfl rfl
theorem dksX1_clauseOf_3 : cX1_clauseOf.data.toList.drop 64 = dktX1_clauseOf_3 := dk_seg dksX1_clauseOf_2 24 rfl rfl
theorem dksX1_clauseOf_4 : cX1_clauseOf.data.toList.drop 88 = dktX1_clauseOf_4 := dk_seg dksX1_clauseOf_3 24 rfl rfl
theorem dX1_clauseOf_0 : decode cX1_clauseOf 0 = .ok (.aload_n 0, 1) := dk_42 (dk_at dksX1_clauseOf_0 0 rfl rfl)
theorem dX1_clauseOf_1 : decode cX1_clauseOf 1 = .ok (.iload_n 1, 1) := dk_27 (dk_at dksX1_clauseOf_0 1 rfl rfl)
theorem dX1_clauseOf_2 : decode cX1_clauseOf 2 = .ok (.invokevirtual 244, 3) := dk_182 0 244 (dk_at dksX1_clauseOf_0 2 rfl rfl)
theorem dX1_clauseOf_5 : decode cX1_clauseOf 5 = .ok (.iload_n 2, 1) := dk_28 (dk_at dksX1_clauseOf_0 5 rfl rfl)
theorem dX1_clauseOf_6 : decode cX1_clauseOf 6 = .ok (.iconst 0, 1) := dk_3 (dk_at dksX1_clauseOf_0 6 rfl rfl)
theorem dX1_clauseOf_7 : decode cX1_clauseOf 7 = .ok (.iconst 3, 1) := dk_6 (dk_at dksX1_clauseOf_0 7 rfl rfl)
theorem dX1_clauseOf_8 : decode cX1_clauseOf 8 = .ok (.invokestatic 124, 3) := dk_184 0 124 (dk_at dksX1_clauseOf_0 8 rfl rfl)
theorem dX1_clauseOf_11 : decode cX1_clauseOf 11 = .ok (.invokestatic 157, 3) := dk_184 0 157 (dk_at dksX1_clauseOf_0 11 rfl rfl)
theorem dX1_clauseOf_14 : decode cX1_clauseOf 14 = .ok (.iload_n 2, 1) := dk_28 (dk_at dksX1_clauseOf_0 14 rfl rfl)
theorem dX1_clauseOf_15 : decode cX1_clauseOf 15 = .ok (.tableswitch 55 0 2 #[25, 35, 45], 25) := by decide +kernel
theorem dX1_clauseOf_40 : decode cX1_clauseOf 40 = .ok (.aload_n 0, 1) := dk_42 (dk_at dksX1_clauseOf_2 0 rfl rfl)
theorem dX1_clauseOf_41 : decode cX1_clauseOf 41 = .ok (.getfield 28, 3) := dk_180 0 28 (dk_at dksX1_clauseOf_2 1 rfl rfl)
theorem dX1_clauseOf_44 : decode cX1_clauseOf 44 = .ok (.getfield 250, 3) := dk_180 0 250 (dk_at dksX1_clauseOf_2 4 rfl rfl)
theorem dX1_clauseOf_47 : decode cX1_clauseOf 47 = .ok (.iload_n 1, 1) := dk_27 (dk_at dksX1_clauseOf_2 7 rfl rfl)
theorem dX1_clauseOf_48 : decode cX1_clauseOf 48 = .ok (.iaload, 1) := dk_46 (dk_at dksX1_clauseOf_2 8 rfl rfl)
theorem dX1_clauseOf_49 : decode cX1_clauseOf 49 = .ok (.ireturn, 1) := dk_172 (dk_at dksX1_clauseOf_2 9 rfl rfl)
theorem dX1_clauseOf_50 : decode cX1_clauseOf 50 = .ok (.aload_n 0, 1) := dk_42 (dk_at dksX1_clauseOf_2 10 rfl rfl)
theorem dX1_clauseOf_51 : decode cX1_clauseOf 51 = .ok (.getfield 28, 3) := dk_180 0 28 (dk_at dksX1_clauseOf_2 11 rfl rfl)
theorem dX1_clauseOf_54 : decode cX1_clauseOf 54 = .ok (.getfield 254, 3) := dk_180 0 254 (dk_at dksX1_clauseOf_2 14 rfl rfl)
theorem dX1_clauseOf_57 : decode cX1_clauseOf 57 = .ok (.iload_n 1, 1) := dk_27 (dk_at dksX1_clauseOf_2 17 rfl rfl)
theorem dX1_clauseOf_58 : decode cX1_clauseOf 58 = .ok (.iaload, 1) := dk_46 (dk_at dksX1_clauseOf_2 18 rfl rfl)
theorem dX1_clauseOf_59 : decode cX1_clauseOf 59 = .ok (.ireturn, 1) := dk_172 (dk_at dksX1_clauseOf_2 19 rfl rfl)
theorem dX1_clauseOf_60 : decode cX1_clauseOf 60 = .ok (.aload_n 0, 1) := dk_42 (dk_at dksX1_clauseOf_2 20 rfl rfl)
theorem dX1_clauseOf_61 : decode cX1_clauseOf 61 = .ok (.getfield 28, 3) := dk_180 0 28 (dk_at dksX1_clauseOf_2 21 rfl rfl)
theorem dX1_clauseOf_64 : decode cX1_clauseOf 64 = .ok (.getfield 257, 3) := dk_180 1 1 (dk_at dksX1_clauseOf_3 0 rfl rfl)
theorem dX1_clauseOf_67 : decode cX1_clauseOf 67 = .ok (.iload_n 1, 1) := dk_27 (dk_at dksX1_clauseOf_3 3 rfl rfl)
theorem dX1_clauseOf_68 : decode cX1_clauseOf 68 = .ok (.iaload, 1) := dk_46 (dk_at dksX1_clauseOf_3 4 rfl rfl)
theorem dX1_clauseOf_69 : decode cX1_clauseOf 69 = .ok (.ireturn, 1) := dk_172 (dk_at dksX1_clauseOf_3 5 rfl rfl)
theorem dX1_clauseOf_70 : decode cX1_clauseOf 70 = .ok (.aload_n 0, 1) := dk_42 (dk_at dksX1_clauseOf_3 6 rfl rfl)
theorem dX1_clauseOf_71 : decode cX1_clauseOf 71 = .ok (.getfield 65, 3) := dk_180 0 65 (dk_at dksX1_clauseOf_3 7 rfl rfl)
theorem dX1_clauseOf_74 : decode cX1_clauseOf 74 = .ok (.aload_n 0, 1) := dk_42 (dk_at dksX1_clauseOf_3 10 rfl rfl)
theorem dX1_clauseOf_75 : decode cX1_clauseOf 75 = .ok (.getfield 28, 3) := dk_180 0 28 (dk_at dksX1_clauseOf_3 11 rfl rfl)
theorem dX1_clauseOf_78 : decode cX1_clauseOf 78 = .ok (.invokevirtual 260, 3) := dk_182 1 4 (dk_at dksX1_clauseOf_3 14 rfl rfl)
theorem dX1_clauseOf_81 : decode cX1_clauseOf 81 = .ok (.aload_n 0, 1) := dk_42 (dk_at dksX1_clauseOf_3 17 rfl rfl)
theorem dX1_clauseOf_82 : decode cX1_clauseOf 82 = .ok (.getfield 65, 3) := dk_180 0 65 (dk_at dksX1_clauseOf_3 18 rfl rfl)
theorem dX1_clauseOf_85 : decode cX1_clauseOf 85 = .ok (.getfield 261, 3) := dk_180 1 5 (dk_at dksX1_clauseOf_3 21 rfl rfl)
theorem dX1_clauseOf_88 : decode cX1_clauseOf 88 = .ok (.ifCond .eq 15, 3) := dk_153 0 15 (dk_at dksX1_clauseOf_4 0 rfl rfl)
theorem dX1_clauseOf_91 : decode cX1_clauseOf 91 = .ok (.aload_n 0, 1) := dk_42 (dk_at dksX1_clauseOf_4 3 rfl rfl)
theorem dX1_clauseOf_92 : decode cX1_clauseOf 92 = .ok (.getfield 65, 3) := dk_180 0 65 (dk_at dksX1_clauseOf_4 4 rfl rfl)
theorem dX1_clauseOf_95 : decode cX1_clauseOf 95 = .ok (.getfield 265, 3) := dk_180 1 9 (dk_at dksX1_clauseOf_4 7 rfl rfl)
theorem dX1_clauseOf_98 : decode cX1_clauseOf 98 = .ok (.iload_n 1, 1) := dk_27 (dk_at dksX1_clauseOf_4 10 rfl rfl)
theorem dX1_clauseOf_99 : decode cX1_clauseOf 99 = .ok (.iaload, 1) := dk_46 (dk_at dksX1_clauseOf_4 11 rfl rfl)
theorem dX1_clauseOf_100 : decode cX1_clauseOf 100 = .ok (.goto 4, 3) := dk_167 0 4 (dk_at dksX1_clauseOf_4 12 rfl rfl)
theorem dX1_clauseOf_103 : decode cX1_clauseOf 103 = .ok (.iconst (-1), 1) := dk_2 (dk_at dksX1_clauseOf_4 15 rfl rfl)
theorem dX1_clauseOf_104 : decode cX1_clauseOf 104 = .ok (.ireturn, 1) := dk_172 (dk_at dksX1_clauseOf_4 16 rfl rfl)
abbrev cX1_wrong : ByteArray := prog_1_method_31_code
def yX1_wrong : MethodName := ⟨RX1, "wrong", "(I)I"⟩
def dkwX1_wrong_2 : List UInt8 := [180, 1, 17, 167, 0, 10, 42, 180, 0, 51, 180, 1, 20, 172]
abbrev dktX1_wrong_2 : List UInt8 := dkwX1_wrong_2 ++ []
def dkwX1_wrong_1 : List UInt8 := [154, 0, 13, 42, 180, 0, 51, 180, 1, 16, 167, 0, 25, 27, 4, 160, 0, 13, 42, 180, 0, 51]
abbrev dktX1_wrong_1 : List UInt8 := dkwX1_wrong_1 ++ dktX1_wrong_2
def dkwX1_wrong_0 : List UInt8 := [27, 3, 5, 184, 0, 124, 184, 0, 157, 42, 180, 0, 51, 42, 180, 0, 28, 2, 182, 1, 12, 27]
abbrev dktX1_wrong_0 : List UInt8 := dkwX1_wrong_0 ++ dktX1_wrong_1
theorem dksX1_wrong_0 : cX1_wrong.data.toList.drop 0 = dktX1_wrong_0 := by decide +kernel
theorem dksX1_wrong_1 : cX1_wrong.data.toList.drop 22 = dktX1_wrong_1 := dk_seg dksX1_wrong_0 22 rfl rfl
theorem dksX1_wrong_2 : cX1_wrong.data.toList.drop 44 = dktX1_wrong_2 := dk_seg dksX1_wrong_1 22 rfl rfl
theorem dX1_wrong_0 : decode cX1_wrong 0 = .ok (.iload_n 1, 1) := dk_27 (dk_at dksX1_wrong_0 0 rfl rfl)
theorem dX1_wrong_1 : decode cX1_wrong 1 = .ok (.iconst 0, 1) := dk_3 (dk_at dksX1_wrong_0 1 rfl rfl)
theorem dX1_wrong_2 : decode cX1_wrong 2 = .ok (.iconst 2, 1) := dk_5 (dk_at dksX1_wrong_0 2 rfl rfl)
theorem dX1_wrong_3 : decode cX1_wrong 3 = .ok (.invokestatic 124, 3) := dk_184 0 124 (dk_at dksX1_wrong_0 3 rfl rfl)
theorem dX1_wrong_6 : decode cX1_wrong 6 = .ok (.invokestatic 157, 3) := dk_184 0 157 (dk_at dksX1_wrong_0 6 rfl rfl)
theorem dX1_wrong_9 : decode cX1_wrong 9 = .ok (.aload_n 0, 1) := dk_42 (dk_at dksX1_wrong_0 9 rfl rfl)
theorem dX1_wrong_10 : decode cX1_wrong 10 = .ok (.getfield 51, 3) := dk_180 0 51 (dk_at dksX1_wrong_0 10 rfl rfl)
theorem dX1_wrong_13 : decode cX1_wrong 13 = .ok (.aload_n 0, 1) := dk_42 (dk_at dksX1_wrong_0 13 rfl rfl)
theorem dX1_wrong_14 : decode cX1_wrong 14 = .ok (.getfield 28, 3) := dk_180 0 28 (dk_at dksX1_wrong_0 14 rfl rfl)
theorem dX1_wrong_17 : decode cX1_wrong 17 = .ok (.iconst (-1), 1) := dk_2 (dk_at dksX1_wrong_0 17 rfl rfl)
theorem dX1_wrong_18 : decode cX1_wrong 18 = .ok (.invokevirtual 268, 3) := dk_182 1 12 (dk_at dksX1_wrong_0 18 rfl rfl)
theorem dX1_wrong_21 : decode cX1_wrong 21 = .ok (.iload_n 1, 1) := dk_27 (dk_at dksX1_wrong_0 21 rfl rfl)
theorem dX1_wrong_22 : decode cX1_wrong 22 = .ok (.ifCond .ne 13, 3) := dk_154 0 13 (dk_at dksX1_wrong_1 0 rfl rfl)
theorem dX1_wrong_25 : decode cX1_wrong 25 = .ok (.aload_n 0, 1) := dk_42 (dk_at dksX1_wrong_1 3 rfl rfl)
theorem dX1_wrong_26 : decode cX1_wrong 26 = .ok (.getfield 51, 3) := dk_180 0 51 (dk_at dksX1_wrong_1 4 rfl rfl)
theorem dX1_wrong_29 : decode cX1_wrong 29 = .ok (.getfield 272, 3) := dk_180 1 16 (dk_at dksX1_wrong_1 7 rfl rfl)
theorem dX1_wrong_32 : decode cX1_wrong 32 = .ok (.goto 25, 3) := dk_167 0 25 (dk_at dksX1_wrong_1 10 rfl rfl)
theorem dX1_wrong_35 : decode cX1_wrong 35 = .ok (.iload_n 1, 1) := dk_27 (dk_at dksX1_wrong_1 13 rfl rfl)
theorem dX1_wrong_36 : decode cX1_wrong 36 = .ok (.iconst 1, 1) := dk_4 (dk_at dksX1_wrong_1 14 rfl rfl)
theorem dX1_wrong_37 : decode cX1_wrong 37 = .ok (.if_icmp .ne 13, 3) := dk_160 0 13 (dk_at dksX1_wrong_1 15 rfl rfl)
theorem dX1_wrong_40 : decode cX1_wrong 40 = .ok (.aload_n 0, 1) := dk_42 (dk_at dksX1_wrong_1 18 rfl rfl)
theorem dX1_wrong_41 : decode cX1_wrong 41 = .ok (.getfield 51, 3) := dk_180 0 51 (dk_at dksX1_wrong_1 19 rfl rfl)
theorem dX1_wrong_44 : decode cX1_wrong 44 = .ok (.getfield 273, 3) := dk_180 1 17 (dk_at dksX1_wrong_2 0 rfl rfl)
theorem dX1_wrong_47 : decode cX1_wrong 47 = .ok (.goto 10, 3) := dk_167 0 10 (dk_at dksX1_wrong_2 3 rfl rfl)
theorem dX1_wrong_50 : decode cX1_wrong 50 = .ok (.aload_n 0, 1) := dk_42 (dk_at dksX1_wrong_2 6 rfl rfl)
theorem dX1_wrong_51 : decode cX1_wrong 51 = .ok (.getfield 51, 3) := dk_180 0 51 (dk_at dksX1_wrong_2 7 rfl rfl)
theorem dX1_wrong_54 : decode cX1_wrong 54 = .ok (.getfield 276, 3) := dk_180 1 20 (dk_at dksX1_wrong_2 10 rfl rfl)
theorem dX1_wrong_57 : decode cX1_wrong 57 = .ok (.ireturn, 1) := dk_172 (dk_at dksX1_wrong_2 13 rfl rfl)
abbrev cX1_goodAt : ByteArray := prog_1_method_35_code
def yX1_goodAt : MethodName := ⟨RX1, "goodAt", "(II)I"⟩
def dkwX1_goodAt_2 : List UInt8 := [180, 0, 51, 180, 1, 37, 27, 46, 172]
abbrev dktX1_goodAt_2 : List UInt8 := dkwX1_goodAt_2 ++ []
def dkwX1_goodAt_1 : List UInt8 := [42, 180, 0, 28, 28, 182, 1, 12, 42, 180, 0, 51, 180, 1, 37, 199, 0, 7, 2, 167, 0, 12, 42]
abbrev dktX1_goodAt_1 : List UInt8 := dkwX1_goodAt_1 ++ dktX1_goodAt_2
def dkwX1_goodAt_0 : List UInt8 := [42, 27, 182, 0, 176, 28, 3, 42, 180, 0, 28, 180, 0, 237, 184, 0, 124, 184, 0, 210, 42, 180, 0, 51]
abbrev dktX1_goodAt_0 : List UInt8 := dkwX1_goodAt_0 ++ dktX1_goodAt_1
theorem dksX1_goodAt_0 : cX1_goodAt.data.toList.drop 0 = dktX1_goodAt_0 := by decide +kernel
theorem dksX1_goodAt_1 : cX1_goodAt.data.toList.drop 24 = dktX1_goodAt_1 := dk_seg dksX1_goodAt_0 24 rfl rfl
theorem dksX1_goodAt_2 : cX1_goodAt.data.toList.drop 47 = dktX1_goodAt_2 := dk_seg dksX1_goodAt_1 23 rfl rfl
theorem dX1_goodAt_0 : decode cX1_goodAt 0 = .ok (.aload_n 0, 1) := dk_42 (dk_at dksX1_goodAt_0 0 rfl rfl)
theorem dX1_goodAt_1 : decode cX1_goodAt 1 = .ok (.iload_n 1, 1) := dk_27 (dk_at dksX1_goodAt_0 1 rfl rfl)
theorem dX1_goodAt_2 : decode cX1_goodAt 2 = .ok (.invokevirtual 176, 3) := dk_182 0 176 (dk_at dksX1_goodAt_0 2 rfl rfl)
theorem dX1_goodAt_5 : decode cX1_goodAt 5 = .ok (.iload_n 2, 1) := dk_28 (dk_at dksX1_goodAt_0 5 rfl rfl)
theorem dX1_goodAt_6 : decode cX1_goodAt 6 = .ok (.iconst 0, 1) := dk_3 (dk_at dksX1_goodAt_0 6 rfl rfl)
theorem dX1_goodAt_7 : decode cX1_goodAt 7 = .ok (.aload_n 0, 1) := dk_42 (dk_at dksX1_goodAt_0 7 rfl rfl)
theorem dX1_goodAt_8 : decode cX1_goodAt 8 = .ok (.getfield 28, 3) := dk_180 0 28 (dk_at dksX1_goodAt_0 8 rfl rfl)
theorem dX1_goodAt_11 : decode cX1_goodAt 11 = .ok (.getfield 237, 3) := dk_180 0 237 (dk_at dksX1_goodAt_0 11 rfl rfl)
theorem dX1_goodAt_14 : decode cX1_goodAt 14 = .ok (.invokestatic 124, 3) := dk_184 0 124 (dk_at dksX1_goodAt_0 14 rfl rfl)
theorem dX1_goodAt_17 : decode cX1_goodAt 17 = .ok (.invokestatic 210, 3) := dk_184 0 210 (dk_at dksX1_goodAt_0 17 rfl rfl)
theorem dX1_goodAt_20 : decode cX1_goodAt 20 = .ok (.aload_n 0, 1) := dk_42 (dk_at dksX1_goodAt_0 20 rfl rfl)
theorem dX1_goodAt_21 : decode cX1_goodAt 21 = .ok (.getfield 51, 3) := dk_180 0 51 (dk_at dksX1_goodAt_0 21 rfl rfl)
theorem dX1_goodAt_24 : decode cX1_goodAt 24 = .ok (.aload_n 0, 1) := dk_42 (dk_at dksX1_goodAt_1 0 rfl rfl)
theorem dX1_goodAt_25 : decode cX1_goodAt 25 = .ok (.getfield 28, 3) := dk_180 0 28 (dk_at dksX1_goodAt_1 1 rfl rfl)
theorem dX1_goodAt_28 : decode cX1_goodAt 28 = .ok (.iload_n 2, 1) := dk_28 (dk_at dksX1_goodAt_1 4 rfl rfl)
theorem dX1_goodAt_29 : decode cX1_goodAt 29 = .ok (.invokevirtual 268, 3) := dk_182 1 12 (dk_at dksX1_goodAt_1 5 rfl rfl)
theorem dX1_goodAt_32 : decode cX1_goodAt 32 = .ok (.aload_n 0, 1) := dk_42 (dk_at dksX1_goodAt_1 8 rfl rfl)
theorem dX1_goodAt_33 : decode cX1_goodAt 33 = .ok (.getfield 51, 3) := dk_180 0 51 (dk_at dksX1_goodAt_1 9 rfl rfl)
theorem dX1_goodAt_36 : decode cX1_goodAt 36 = .ok (.getfield 293, 3) := dk_180 1 37 (dk_at dksX1_goodAt_1 12 rfl rfl)
theorem dX1_goodAt_39 : decode cX1_goodAt 39 = .ok (.ifnonnull 7, 3) := dk_199 0 7 (dk_at dksX1_goodAt_1 15 rfl rfl)
theorem dX1_goodAt_42 : decode cX1_goodAt 42 = .ok (.iconst (-1), 1) := dk_2 (dk_at dksX1_goodAt_1 18 rfl rfl)
theorem dX1_goodAt_43 : decode cX1_goodAt 43 = .ok (.goto 12, 3) := dk_167 0 12 (dk_at dksX1_goodAt_1 19 rfl rfl)
theorem dX1_goodAt_46 : decode cX1_goodAt 46 = .ok (.aload_n 0, 1) := dk_42 (dk_at dksX1_goodAt_1 22 rfl rfl)
theorem dX1_goodAt_47 : decode cX1_goodAt 47 = .ok (.getfield 51, 3) := dk_180 0 51 (dk_at dksX1_goodAt_2 0 rfl rfl)
theorem dX1_goodAt_50 : decode cX1_goodAt 50 = .ok (.getfield 293, 3) := dk_180 1 37 (dk_at dksX1_goodAt_2 3 rfl rfl)
theorem dX1_goodAt_53 : decode cX1_goodAt 53 = .ok (.iload_n 1, 1) := dk_27 (dk_at dksX1_goodAt_2 6 rfl rfl)
theorem dX1_goodAt_54 : decode cX1_goodAt 54 = .ok (.iaload, 1) := dk_46 (dk_at dksX1_goodAt_2 7 rfl rfl)
theorem dX1_goodAt_55 : decode cX1_goodAt 55 = .ok (.ireturn, 1) := dk_172 (dk_at dksX1_goodAt_2 8 rfl rfl)
abbrev cX1_ploughAt : ByteArray := prog_1_method_36_code
def yX1_ploughAt : MethodName := ⟨RX1, "ploughAt", "(II)I"⟩
def dkwX1_ploughAt_2 : List UInt8 := [167, 0, 12, 42, 180, 0, 51, 180, 1, 40, 27, 46, 172]
abbrev dktX1_ploughAt_2 : List UInt8 := dkwX1_ploughAt_2 ++ []
def dkwX1_ploughAt_1 : List UInt8 := [42, 180, 0, 51, 42, 180, 0, 28, 28, 182, 1, 12, 42, 180, 0, 51, 180, 1, 37, 199, 0, 8, 16, 254]
abbrev dktX1_ploughAt_1 : List UInt8 := dkwX1_ploughAt_1 ++ dktX1_ploughAt_2
def dkwX1_ploughAt_0 : List UInt8 := [27, 3, 7, 184, 0, 124, 184, 0, 132, 28, 3, 42, 180, 0, 28, 180, 0, 237, 184, 0, 124, 184, 0, 210]
abbrev dktX1_ploughAt_0 : List UInt8 := dkwX1_ploughAt_0 ++ dktX1_ploughAt_1
theorem dksX1_ploughAt_0 : cX1_ploughAt.data.toList.drop 0 = dktX1_ploughAt_0 := by decide +kernel
theorem dksX1_ploughAt_1 : cX1_ploughAt.data.toList.drop 24 = dktX1_ploughAt_1 := dk_seg dksX1_ploughAt_0 24 rfl rfl
theorem dksX1_ploughAt_2 : cX1_ploughAt.data.toList.drop 48 = dktX1_ploughAt_2 := dk_seg dksX1_ploughAt_1 24 rfl rfl
theorem dX1_ploughAt_0 : decode cX1_ploughAt 0 = .ok (.iload_n 1, 1) := dk_27 (dk_at dksX1_ploughAt_0 0 rfl rfl)
theorem dX1_ploughAt_1 : decode cX1_ploughAt 1 = .ok (.iconst 0, 1) := dk_3 (dk_at dksX1_ploughAt_0 1 rfl rfl)
theorem dX1_ploughAt_2 : decode cX1_ploughAt 2 = .ok (.iconst 4, 1) := dk_7 (dk_at dksX1_ploughAt_0 2 rfl rfl)
theorem dX1_ploughAt_3 : decode cX1_ploughAt 3 = .ok (.invokestatic 124, 3) := dk_184 0 124 (dk_at dksX1_ploughAt_0 3 rfl rfl)
theorem dX1_ploughAt_6 : decode cX1_ploughAt 6 = .ok (.invokestatic 132, 3) := dk_184 0 132 (dk_at dksX1_ploughAt_0 6 rfl rfl)
theorem dX1_ploughAt_9 : decode cX1_ploughAt 9 = .ok (.iload_n 2, 1) := dk_28 (dk_at dksX1_ploughAt_0 9 rfl rfl)
theorem dX1_ploughAt_10 : decode cX1_ploughAt 10 = .ok (.iconst 0, 1) := dk_3 (dk_at dksX1_ploughAt_0 10 rfl rfl)
theorem dX1_ploughAt_11 : decode cX1_ploughAt 11 = .ok (.aload_n 0, 1) := dk_42 (dk_at dksX1_ploughAt_0 11 rfl rfl)
theorem dX1_ploughAt_12 : decode cX1_ploughAt 12 = .ok (.getfield 28, 3) := dk_180 0 28 (dk_at dksX1_ploughAt_0 12 rfl rfl)
theorem dX1_ploughAt_15 : decode cX1_ploughAt 15 = .ok (.getfield 237, 3) := dk_180 0 237 (dk_at dksX1_ploughAt_0 15 rfl rfl)
theorem dX1_ploughAt_18 : decode cX1_ploughAt 18 = .ok (.invokestatic 124, 3) := dk_184 0 124 (dk_at dksX1_ploughAt_0 18 rfl rfl)
theorem dX1_ploughAt_21 : decode cX1_ploughAt 21 = .ok (.invokestatic 210, 3) := dk_184 0 210 (dk_at dksX1_ploughAt_0 21 rfl rfl)
theorem dX1_ploughAt_24 : decode cX1_ploughAt 24 = .ok (.aload_n 0, 1) := dk_42 (dk_at dksX1_ploughAt_1 0 rfl rfl)
theorem dX1_ploughAt_25 : decode cX1_ploughAt 25 = .ok (.getfield 51, 3) := dk_180 0 51 (dk_at dksX1_ploughAt_1 1 rfl rfl)
theorem dX1_ploughAt_28 : decode cX1_ploughAt 28 = .ok (.aload_n 0, 1) := dk_42 (dk_at dksX1_ploughAt_1 4 rfl rfl)
theorem dX1_ploughAt_29 : decode cX1_ploughAt 29 = .ok (.getfield 28, 3) := dk_180 0 28 (dk_at dksX1_ploughAt_1 5 rfl rfl)
theorem dX1_ploughAt_32 : decode cX1_ploughAt 32 = .ok (.iload_n 2, 1) := dk_28 (dk_at dksX1_ploughAt_1 8 rfl rfl)
theorem dX1_ploughAt_33 : decode cX1_ploughAt 33 = .ok (.invokevirtual 268, 3) := dk_182 1 12 (dk_at dksX1_ploughAt_1 9 rfl rfl)
theorem dX1_ploughAt_36 : decode cX1_ploughAt 36 = .ok (.aload_n 0, 1) := dk_42 (dk_at dksX1_ploughAt_1 12 rfl rfl)
theorem dX1_ploughAt_37 : decode cX1_ploughAt 37 = .ok (.getfield 51, 3) := dk_180 0 51 (dk_at dksX1_ploughAt_1 13 rfl rfl)
theorem dX1_ploughAt_40 : decode cX1_ploughAt 40 = .ok (.getfield 293, 3) := dk_180 1 37 (dk_at dksX1_ploughAt_1 16 rfl rfl)
theorem dX1_ploughAt_43 : decode cX1_ploughAt 43 = .ok (.ifnonnull 8, 3) := dk_199 0 8 (dk_at dksX1_ploughAt_1 19 rfl rfl)
theorem dX1_ploughAt_46 : decode cX1_ploughAt 46 = .ok (.bipush (-2), 2) := dk_16 254 (dk_at dksX1_ploughAt_1 22 rfl rfl)
theorem dX1_ploughAt_48 : decode cX1_ploughAt 48 = .ok (.goto 12, 3) := dk_167 0 12 (dk_at dksX1_ploughAt_2 0 rfl rfl)
theorem dX1_ploughAt_51 : decode cX1_ploughAt 51 = .ok (.aload_n 0, 1) := dk_42 (dk_at dksX1_ploughAt_2 3 rfl rfl)
theorem dX1_ploughAt_52 : decode cX1_ploughAt 52 = .ok (.getfield 51, 3) := dk_180 0 51 (dk_at dksX1_ploughAt_2 4 rfl rfl)
theorem dX1_ploughAt_55 : decode cX1_ploughAt 55 = .ok (.getfield 296, 3) := dk_180 1 40 (dk_at dksX1_ploughAt_2 7 rfl rfl)
theorem dX1_ploughAt_58 : decode cX1_ploughAt 58 = .ok (.iload_n 1, 1) := dk_27 (dk_at dksX1_ploughAt_2 10 rfl rfl)
theorem dX1_ploughAt_59 : decode cX1_ploughAt 59 = .ok (.iaload, 1) := dk_46 (dk_at dksX1_ploughAt_2 11 rfl rfl)
theorem dX1_ploughAt_60 : decode cX1_ploughAt 60 = .ok (.ireturn, 1) := dk_172 (dk_at dksX1_ploughAt_2 12 rfl rfl)
abbrev cX1_pathOf : ByteArray := prog_1_method_39_code
def yX1_pathOf : MethodName := ⟨RX1, "pathOf", "(II)I"⟩
def dkwX1_pathOf_4 : List UInt8 := [182, 1, 56, 172, 42, 180, 0, 51, 180, 1, 16, 172, 42, 180, 0, 51, 180, 1, 17, 172]
abbrev dktX1_pathOf_4 : List UInt8 := dkwX1_pathOf_4 ++ []
def dkwX1_pathOf_3 : List UInt8 := [42, 180, 0, 58, 180, 1, 50, 172, 42, 180, 0, 58, 180, 1, 53, 172, 42, 180, 0, 58, 42, 180, 0, 28]
abbrev dktX1_pathOf_3 : List UInt8 := dkwX1_pathOf_3 ++ dktX1_pathOf_4
def dkwX1_pathOf_2 : List UInt8 := [170, 0, 0, 0, 0, 66, 0, 0, 0, 0, 0, 0, 0, 3, 0, 0, 0, 30, 0, 0, 0, 38, 0, 0, 0, 46, 0, 0, 0, 58]
abbrev dktX1_pathOf_2 : List UInt8 := dkwX1_pathOf_2 ++ dktX1_pathOf_3
def dkwX1_pathOf_1 : List UInt8 := [180, 0, 58, 182, 1, 30, 28]
abbrev dktX1_pathOf_1 : List UInt8 := dkwX1_pathOf_1 ++ dktX1_pathOf_2
def dkwX1_pathOf_0 : List UInt8 := [42, 27, 182, 1, 47, 28, 3, 7, 184, 0, 124, 184, 0, 157, 42, 180, 0, 51, 42, 180, 0, 28, 42]
abbrev dktX1_pathOf_0 : List UInt8 := dkwX1_pathOf_0 ++ dktX1_pathOf_1
theorem dksX1_pathOf_0 : cX1_pathOf.data.toList.drop 0 = dktX1_pathOf_0 := by decide +kernel
theorem dksX1_pathOf_1 : cX1_pathOf.data.toList.drop 23 = dktX1_pathOf_1 := dk_seg dksX1_pathOf_0 23 rfl rfl
theorem dksX1_pathOf_2 : cX1_pathOf.data.toList.drop 30 = dktX1_pathOf_2 := dk_seg dksX1_pathOf_1 7 rfl rfl
theorem dksX1_pathOf_3 : cX1_pathOf.data.toList.drop 60 = dktX1_pathOf_3 := dk_seg dksX1_pathOf_2 30 rfl rfl
theorem dksX1_pathOf_4 : cX1_pathOf.data.toList.drop 84 = dktX1_pathOf_4 := dk_seg dksX1_pathOf_3 24 rfl rfl
theorem dX1_pathOf_0 : decode cX1_pathOf 0 = .ok (.aload_n 0, 1) := dk_42 (dk_at dksX1_pathOf_0 0 rfl rfl)
theorem dX1_pathOf_1 : decode cX1_pathOf 1 = .ok (.iload_n 1, 1) := dk_27 (dk_at dksX1_pathOf_0 1 rfl rfl)
theorem dX1_pathOf_2 : decode cX1_pathOf 2 = .ok (.invokevirtual 303, 3) := dk_182 1 47 (dk_at dksX1_pathOf_0 2 rfl rfl)
theorem dX1_pathOf_5 : decode cX1_pathOf 5 = .ok (.iload_n 2, 1) := dk_28 (dk_at dksX1_pathOf_0 5 rfl rfl)
theorem dX1_pathOf_6 : decode cX1_pathOf 6 = .ok (.iconst 0, 1) := dk_3 (dk_at dksX1_pathOf_0 6 rfl rfl)
theorem dX1_pathOf_7 : decode cX1_pathOf 7 = .ok (.iconst 4, 1) := dk_7 (dk_at dksX1_pathOf_0 7 rfl rfl)
theorem dX1_pathOf_8 : decode cX1_pathOf 8 = .ok (.invokestatic 124, 3) := dk_184 0 124 (dk_at dksX1_pathOf_0 8 rfl rfl)
theorem dX1_pathOf_11 : decode cX1_pathOf 11 = .ok (.invokestatic 157, 3) := dk_184 0 157 (dk_at dksX1_pathOf_0 11 rfl rfl)
theorem dX1_pathOf_14 : decode cX1_pathOf 14 = .ok (.aload_n 0, 1) := dk_42 (dk_at dksX1_pathOf_0 14 rfl rfl)
theorem dX1_pathOf_15 : decode cX1_pathOf 15 = .ok (.getfield 51, 3) := dk_180 0 51 (dk_at dksX1_pathOf_0 15 rfl rfl)
theorem dX1_pathOf_18 : decode cX1_pathOf 18 = .ok (.aload_n 0, 1) := dk_42 (dk_at dksX1_pathOf_0 18 rfl rfl)
theorem dX1_pathOf_19 : decode cX1_pathOf 19 = .ok (.getfield 28, 3) := dk_180 0 28 (dk_at dksX1_pathOf_0 19 rfl rfl)
theorem dX1_pathOf_22 : decode cX1_pathOf 22 = .ok (.aload_n 0, 1) := dk_42 (dk_at dksX1_pathOf_0 22 rfl rfl)
theorem dX1_pathOf_23 : decode cX1_pathOf 23 = .ok (.getfield 58, 3) := dk_180 0 58 (dk_at dksX1_pathOf_1 0 rfl rfl)
theorem dX1_pathOf_26 : decode cX1_pathOf 26 = .ok (.invokevirtual 286, 3) := dk_182 1 30 (dk_at dksX1_pathOf_1 3 rfl rfl)
theorem dX1_pathOf_29 : decode cX1_pathOf 29 = .ok (.iload_n 2, 1) := dk_28 (dk_at dksX1_pathOf_1 6 rfl rfl)
theorem dX1_pathOf_30 : decode cX1_pathOf 30 = .ok (.tableswitch 66 0 3 #[30, 38, 46, 58], 30) := by decide +kernel
theorem dX1_pathOf_60 : decode cX1_pathOf 60 = .ok (.aload_n 0, 1) := dk_42 (dk_at dksX1_pathOf_3 0 rfl rfl)
theorem dX1_pathOf_61 : decode cX1_pathOf 61 = .ok (.getfield 58, 3) := dk_180 0 58 (dk_at dksX1_pathOf_3 1 rfl rfl)
theorem dX1_pathOf_64 : decode cX1_pathOf 64 = .ok (.getfield 306, 3) := dk_180 1 50 (dk_at dksX1_pathOf_3 4 rfl rfl)
theorem dX1_pathOf_67 : decode cX1_pathOf 67 = .ok (.ireturn, 1) := dk_172 (dk_at dksX1_pathOf_3 7 rfl rfl)
theorem dX1_pathOf_68 : decode cX1_pathOf 68 = .ok (.aload_n 0, 1) := dk_42 (dk_at dksX1_pathOf_3 8 rfl rfl)
theorem dX1_pathOf_69 : decode cX1_pathOf 69 = .ok (.getfield 58, 3) := dk_180 0 58 (dk_at dksX1_pathOf_3 9 rfl rfl)
theorem dX1_pathOf_72 : decode cX1_pathOf 72 = .ok (.getfield 309, 3) := dk_180 1 53 (dk_at dksX1_pathOf_3 12 rfl rfl)
theorem dX1_pathOf_75 : decode cX1_pathOf 75 = .ok (.ireturn, 1) := dk_172 (dk_at dksX1_pathOf_3 15 rfl rfl)
theorem dX1_pathOf_76 : decode cX1_pathOf 76 = .ok (.aload_n 0, 1) := dk_42 (dk_at dksX1_pathOf_3 16 rfl rfl)
theorem dX1_pathOf_77 : decode cX1_pathOf 77 = .ok (.getfield 58, 3) := dk_180 0 58 (dk_at dksX1_pathOf_3 17 rfl rfl)
theorem dX1_pathOf_80 : decode cX1_pathOf 80 = .ok (.aload_n 0, 1) := dk_42 (dk_at dksX1_pathOf_3 20 rfl rfl)
theorem dX1_pathOf_81 : decode cX1_pathOf 81 = .ok (.getfield 28, 3) := dk_180 0 28 (dk_at dksX1_pathOf_3 21 rfl rfl)
theorem dX1_pathOf_84 : decode cX1_pathOf 84 = .ok (.invokevirtual 312, 3) := dk_182 1 56 (dk_at dksX1_pathOf_4 0 rfl rfl)
theorem dX1_pathOf_87 : decode cX1_pathOf 87 = .ok (.ireturn, 1) := dk_172 (dk_at dksX1_pathOf_4 3 rfl rfl)
theorem dX1_pathOf_88 : decode cX1_pathOf 88 = .ok (.aload_n 0, 1) := dk_42 (dk_at dksX1_pathOf_4 4 rfl rfl)
theorem dX1_pathOf_89 : decode cX1_pathOf 89 = .ok (.getfield 51, 3) := dk_180 0 51 (dk_at dksX1_pathOf_4 5 rfl rfl)
theorem dX1_pathOf_92 : decode cX1_pathOf 92 = .ok (.getfield 272, 3) := dk_180 1 16 (dk_at dksX1_pathOf_4 8 rfl rfl)
theorem dX1_pathOf_95 : decode cX1_pathOf 95 = .ok (.ireturn, 1) := dk_172 (dk_at dksX1_pathOf_4 11 rfl rfl)
theorem dX1_pathOf_96 : decode cX1_pathOf 96 = .ok (.aload_n 0, 1) := dk_42 (dk_at dksX1_pathOf_4 12 rfl rfl)
theorem dX1_pathOf_97 : decode cX1_pathOf 97 = .ok (.getfield 51, 3) := dk_180 0 51 (dk_at dksX1_pathOf_4 13 rfl rfl)
theorem dX1_pathOf_100 : decode cX1_pathOf 100 = .ok (.getfield 273, 3) := dk_180 1 17 (dk_at dksX1_pathOf_4 16 rfl rfl)
theorem dX1_pathOf_103 : decode cX1_pathOf 103 = .ok (.ireturn, 1) := dk_172 (dk_at dksX1_pathOf_4 19 rfl rfl)
abbrev cX1_takes : ByteArray := prog_1_method_38_code
def yX1_takes : MethodName := ⟨RX1, "takes", "(I)V"⟩
def dkwX1_takes_1 : List UInt8 := [182, 1, 28, 177]
abbrev dktX1_takes_1 : List UInt8 := dkwX1_takes_1 ++ []
def dkwX1_takes_0 : List UInt8 := [27, 3, 42, 182, 1, 43, 4, 100, 184, 0, 124, 184, 0, 210, 42, 180, 0, 58, 42, 180, 0, 28, 27]
abbrev dktX1_takes_0 : List UInt8 := dkwX1_takes_0 ++ dktX1_takes_1
theorem dksX1_takes_0 : cX1_takes.data.toList.drop 0 = dktX1_takes_0 := by decide +kernel
theorem dksX1_takes_1 : cX1_takes.data.toList.drop 23 = dktX1_takes_1 := dk_seg dksX1_takes_0 23 rfl rfl
theorem dX1_takes_0 : decode cX1_takes 0 = .ok (.iload_n 1, 1) := dk_27 (dk_at dksX1_takes_0 0 rfl rfl)
theorem dX1_takes_1 : decode cX1_takes 1 = .ok (.iconst 0, 1) := dk_3 (dk_at dksX1_takes_0 1 rfl rfl)
theorem dX1_takes_2 : decode cX1_takes 2 = .ok (.aload_n 0, 1) := dk_42 (dk_at dksX1_takes_0 2 rfl rfl)
theorem dX1_takes_3 : decode cX1_takes 3 = .ok (.invokevirtual 299, 3) := dk_182 1 43 (dk_at dksX1_takes_0 3 rfl rfl)
theorem dX1_takes_6 : decode cX1_takes 6 = .ok (.iconst 1, 1) := dk_4 (dk_at dksX1_takes_0 6 rfl rfl)
theorem dX1_takes_7 : decode cX1_takes 7 = .ok (.isub, 1) := dk_100 (dk_at dksX1_takes_0 7 rfl rfl)
theorem dX1_takes_8 : decode cX1_takes 8 = .ok (.invokestatic 124, 3) := dk_184 0 124 (dk_at dksX1_takes_0 8 rfl rfl)
theorem dX1_takes_11 : decode cX1_takes 11 = .ok (.invokestatic 210, 3) := dk_184 0 210 (dk_at dksX1_takes_0 11 rfl rfl)
theorem dX1_takes_14 : decode cX1_takes 14 = .ok (.aload_n 0, 1) := dk_42 (dk_at dksX1_takes_0 14 rfl rfl)
theorem dX1_takes_15 : decode cX1_takes 15 = .ok (.getfield 58, 3) := dk_180 0 58 (dk_at dksX1_takes_0 15 rfl rfl)
theorem dX1_takes_18 : decode cX1_takes 18 = .ok (.aload_n 0, 1) := dk_42 (dk_at dksX1_takes_0 18 rfl rfl)
theorem dX1_takes_19 : decode cX1_takes 19 = .ok (.getfield 28, 3) := dk_180 0 28 (dk_at dksX1_takes_0 19 rfl rfl)
theorem dX1_takes_22 : decode cX1_takes 22 = .ok (.iload_n 1, 1) := dk_27 (dk_at dksX1_takes_0 22 rfl rfl)
theorem dX1_takes_23 : decode cX1_takes 23 = .ok (.invokevirtual 284, 3) := dk_182 1 28 (dk_at dksX1_takes_1 0 rfl rfl)
theorem dX1_takes_26 : decode cX1_takes 26 = .ok (.return_, 1) := dk_177 (dk_at dksX1_takes_1 3 rfl rfl)
abbrev cX1_goesBy : ByteArray := prog_1_method_40_code
def yX1_goesBy : MethodName := ⟨RX1, "goesBy", "(II)Z"⟩
def dkwX1_goesBy_0 : List UInt8 := [42, 27, 182, 1, 47, 42, 28, 182, 0, 244, 42, 180, 0, 58, 180, 1, 59, 28, 51, 172]
abbrev dktX1_goesBy_0 : List UInt8 := dkwX1_goesBy_0 ++ []
theorem dksX1_goesBy_0 : cX1_goesBy.data.toList.drop 0 = dktX1_goesBy_0 := by decide +kernel
theorem dX1_goesBy_0 : decode cX1_goesBy 0 = .ok (.aload_n 0, 1) := dk_42 (dk_at dksX1_goesBy_0 0 rfl rfl)
theorem dX1_goesBy_1 : decode cX1_goesBy 1 = .ok (.iload_n 1, 1) := dk_27 (dk_at dksX1_goesBy_0 1 rfl rfl)
theorem dX1_goesBy_2 : decode cX1_goesBy 2 = .ok (.invokevirtual 303, 3) := dk_182 1 47 (dk_at dksX1_goesBy_0 2 rfl rfl)
theorem dX1_goesBy_5 : decode cX1_goesBy 5 = .ok (.aload_n 0, 1) := dk_42 (dk_at dksX1_goesBy_0 5 rfl rfl)
theorem dX1_goesBy_6 : decode cX1_goesBy 6 = .ok (.iload_n 2, 1) := dk_28 (dk_at dksX1_goesBy_0 6 rfl rfl)
theorem dX1_goesBy_7 : decode cX1_goesBy 7 = .ok (.invokevirtual 244, 3) := dk_182 0 244 (dk_at dksX1_goesBy_0 7 rfl rfl)
theorem dX1_goesBy_10 : decode cX1_goesBy 10 = .ok (.aload_n 0, 1) := dk_42 (dk_at dksX1_goesBy_0 10 rfl rfl)
theorem dX1_goesBy_11 : decode cX1_goesBy 11 = .ok (.getfield 58, 3) := dk_180 0 58 (dk_at dksX1_goesBy_0 11 rfl rfl)
theorem dX1_goesBy_14 : decode cX1_goesBy 14 = .ok (.getfield 315, 3) := dk_180 1 59 (dk_at dksX1_goesBy_0 14 rfl rfl)
theorem dX1_goesBy_17 : decode cX1_goesBy 17 = .ok (.iload_n 2, 1) := dk_28 (dk_at dksX1_goesBy_0 17 rfl rfl)
theorem dX1_goesBy_18 : decode cX1_goesBy 18 = .ok (.baload, 1) := dk_51 (dk_at dksX1_goesBy_0 18 rfl rfl)
theorem dX1_goesBy_19 : decode cX1_goesBy 19 = .ok (.ireturn, 1) := dk_172 (dk_at dksX1_goesBy_0 19 rfl rfl)
abbrev cX1_worth : ByteArray := prog_1_method_43_code
def yX1_worth : MethodName := ⟨RX1, "worth", "(ZZ)I"⟩
def dkwX1_worth_1 : List UInt8 := [182, 1, 82, 167, 0, 16, 42, 3, 42, 180, 0, 28, 180, 0, 237, 27, 182, 1, 67, 172]
abbrev dktX1_worth_1 : List UInt8 := dkwX1_worth_1 ++ []
def dkwX1_worth_0 : List UInt8 := [42, 182, 1, 43, 62, 29, 158, 0, 7, 4, 167, 0, 4, 3, 184, 0, 210, 28, 153, 0, 12, 42, 29, 27]
abbrev dktX1_worth_0 : List UInt8 := dkwX1_worth_0 ++ dktX1_worth_1
theorem dksX1_worth_0 : cX1_worth.data.toList.drop 0 = dktX1_worth_0 := by decide +kernel
theorem dksX1_worth_1 : cX1_worth.data.toList.drop 24 = dktX1_worth_1 := dk_seg dksX1_worth_0 24 rfl rfl
theorem dX1_worth_0 : decode cX1_worth 0 = .ok (.aload_n 0, 1) := dk_42 (dk_at dksX1_worth_0 0 rfl rfl)
theorem dX1_worth_1 : decode cX1_worth 1 = .ok (.invokevirtual 299, 3) := dk_182 1 43 (dk_at dksX1_worth_0 1 rfl rfl)
theorem dX1_worth_4 : decode cX1_worth 4 = .ok (.istore_n 3, 1) := dk_62 (dk_at dksX1_worth_0 4 rfl rfl)
theorem dX1_worth_5 : decode cX1_worth 5 = .ok (.iload_n 3, 1) := dk_29 (dk_at dksX1_worth_0 5 rfl rfl)
theorem dX1_worth_6 : decode cX1_worth 6 = .ok (.ifCond .le 7, 3) := dk_158 0 7 (dk_at dksX1_worth_0 6 rfl rfl)
theorem dX1_worth_9 : decode cX1_worth 9 = .ok (.iconst 1, 1) := dk_4 (dk_at dksX1_worth_0 9 rfl rfl)
theorem dX1_worth_10 : decode cX1_worth 10 = .ok (.goto 4, 3) := dk_167 0 4 (dk_at dksX1_worth_0 10 rfl rfl)
theorem dX1_worth_13 : decode cX1_worth 13 = .ok (.iconst 0, 1) := dk_3 (dk_at dksX1_worth_0 13 rfl rfl)
theorem dX1_worth_14 : decode cX1_worth 14 = .ok (.invokestatic 210, 3) := dk_184 0 210 (dk_at dksX1_worth_0 14 rfl rfl)
theorem dX1_worth_17 : decode cX1_worth 17 = .ok (.iload_n 2, 1) := dk_28 (dk_at dksX1_worth_0 17 rfl rfl)
theorem dX1_worth_18 : decode cX1_worth 18 = .ok (.ifCond .eq 12, 3) := dk_153 0 12 (dk_at dksX1_worth_0 18 rfl rfl)
theorem dX1_worth_21 : decode cX1_worth 21 = .ok (.aload_n 0, 1) := dk_42 (dk_at dksX1_worth_0 21 rfl rfl)
theorem dX1_worth_22 : decode cX1_worth 22 = .ok (.iload_n 3, 1) := dk_29 (dk_at dksX1_worth_0 22 rfl rfl)
theorem dX1_worth_23 : decode cX1_worth 23 = .ok (.iload_n 1, 1) := dk_27 (dk_at dksX1_worth_0 23 rfl rfl)
theorem dX1_worth_24 : decode cX1_worth 24 = .ok (.invokevirtual 338, 3) := dk_182 1 82 (dk_at dksX1_worth_1 0 rfl rfl)
theorem dX1_worth_27 : decode cX1_worth 27 = .ok (.goto 16, 3) := dk_167 0 16 (dk_at dksX1_worth_1 3 rfl rfl)
theorem dX1_worth_30 : decode cX1_worth 30 = .ok (.aload_n 0, 1) := dk_42 (dk_at dksX1_worth_1 6 rfl rfl)
theorem dX1_worth_31 : decode cX1_worth 31 = .ok (.iconst 0, 1) := dk_3 (dk_at dksX1_worth_1 7 rfl rfl)
theorem dX1_worth_32 : decode cX1_worth 32 = .ok (.aload_n 0, 1) := dk_42 (dk_at dksX1_worth_1 8 rfl rfl)
theorem dX1_worth_33 : decode cX1_worth 33 = .ok (.getfield 28, 3) := dk_180 0 28 (dk_at dksX1_worth_1 9 rfl rfl)
theorem dX1_worth_36 : decode cX1_worth 36 = .ok (.getfield 237, 3) := dk_180 0 237 (dk_at dksX1_worth_1 12 rfl rfl)
theorem dX1_worth_39 : decode cX1_worth 39 = .ok (.iload_n 1, 1) := dk_27 (dk_at dksX1_worth_1 15 rfl rfl)
theorem dX1_worth_40 : decode cX1_worth 40 = .ok (.invokevirtual 323, 3) := dk_182 1 67 (dk_at dksX1_worth_1 16 rfl rfl)
theorem dX1_worth_43 : decode cX1_worth 43 = .ok (.ireturn, 1) := dk_172 (dk_at dksX1_worth_1 19 rfl rfl)
abbrev cX1_tithes : ByteArray := prog_1_method_44_code
def yX1_tithes : MethodName := ⟨RX1, "tithes", "(I)F"⟩
def dkwX1_tithes_0 : List UInt8 := [42, 27, 182, 1, 47, 42, 180, 0, 58, 42, 180, 0, 28, 182, 1, 86, 174]
abbrev dktX1_tithes_0 : List UInt8 := dkwX1_tithes_0 ++ []
theorem dksX1_tithes_0 : cX1_tithes.data.toList.drop 0 = dktX1_tithes_0 := by decide +kernel
theorem dX1_tithes_0 : decode cX1_tithes 0 = .ok (.aload_n 0, 1) := dk_42 (dk_at dksX1_tithes_0 0 rfl rfl)
theorem dX1_tithes_1 : decode cX1_tithes 1 = .ok (.iload_n 1, 1) := dk_27 (dk_at dksX1_tithes_0 1 rfl rfl)
theorem dX1_tithes_2 : decode cX1_tithes 2 = .ok (.invokevirtual 303, 3) := dk_182 1 47 (dk_at dksX1_tithes_0 2 rfl rfl)
theorem dX1_tithes_5 : decode cX1_tithes 5 = .ok (.aload_n 0, 1) := dk_42 (dk_at dksX1_tithes_0 5 rfl rfl)
theorem dX1_tithes_6 : decode cX1_tithes 6 = .ok (.getfield 58, 3) := dk_180 0 58 (dk_at dksX1_tithes_0 6 rfl rfl)
theorem dX1_tithes_9 : decode cX1_tithes 9 = .ok (.aload_n 0, 1) := dk_42 (dk_at dksX1_tithes_0 9 rfl rfl)
theorem dX1_tithes_10 : decode cX1_tithes 10 = .ok (.getfield 28, 3) := dk_180 0 28 (dk_at dksX1_tithes_0 10 rfl rfl)
theorem dX1_tithes_13 : decode cX1_tithes 13 = .ok (.invokevirtual 342, 3) := dk_182 1 86 (dk_at dksX1_tithes_0 13 rfl rfl)
theorem dX1_tithes_16 : decode cX1_tithes 16 = .ok (.freturn, 1) := dk_174 (dk_at dksX1_tithes_0 16 rfl rfl)
abbrev cX1_richest : ByteArray := prog_1_method_45_code
def yX1_richest : MethodName := ⟨RX1, "richest", "()I"⟩
def dkwX1_richest_3 : List UInt8 := [28, 61, 37, 23, 5, 184, 1, 91, 70, 132, 4, 1, 167, 255, 200, 28, 172]
abbrev dktX1_richest_3 : List UInt8 := dkwX1_richest_3 ++ []
def dkwX1_richest_2 : List UInt8 := [180, 0, 58, 42, 180, 0, 28, 182, 1, 86, 56, 5, 23, 5, 37, 149, 158, 0, 8, 21, 4, 167, 0, 4]
abbrev dktX1_richest_2 : List UInt8 := dkwX1_richest_2 ++ dktX1_richest_3
def dkwX1_richest_1 : List UInt8 := [54, 4, 21, 4, 27, 162, 0, 56, 42, 180, 0, 58, 42, 180, 0, 28, 21, 4, 182, 1, 28, 42]
abbrev dktX1_richest_1 : List UInt8 := dkwX1_richest_1 ++ dktX1_richest_2
def dkwX1_richest_0 : List UInt8 := [42, 182, 1, 43, 60, 27, 158, 0, 7, 4, 167, 0, 4, 3, 184, 0, 210, 3, 61, 19, 1, 90, 70, 3]
abbrev dktX1_richest_0 : List UInt8 := dkwX1_richest_0 ++ dktX1_richest_1
theorem dksX1_richest_0 : cX1_richest.data.toList.drop 0 = dktX1_richest_0 := by decide +kernel
theorem dksX1_richest_1 : cX1_richest.data.toList.drop 24 = dktX1_richest_1 := dk_seg dksX1_richest_0 24 rfl rfl
theorem dksX1_richest_2 : cX1_richest.data.toList.drop 46 = dktX1_richest_2 := dk_seg dksX1_richest_1 22 rfl rfl
theorem dksX1_richest_3 : cX1_richest.data.toList.drop 70 = dktX1_richest_3 := dk_seg dksX1_richest_2 24 rfl rfl
theorem dX1_richest_0 : decode cX1_richest 0 = .ok (.aload_n 0, 1) := dk_42 (dk_at dksX1_richest_0 0 rfl rfl)
theorem dX1_richest_1 : decode cX1_richest 1 = .ok (.invokevirtual 299, 3) := dk_182 1 43 (dk_at dksX1_richest_0 1 rfl rfl)
theorem dX1_richest_4 : decode cX1_richest 4 = .ok (.istore_n 1, 1) := dk_60 (dk_at dksX1_richest_0 4 rfl rfl)
theorem dX1_richest_5 : decode cX1_richest 5 = .ok (.iload_n 1, 1) := dk_27 (dk_at dksX1_richest_0 5 rfl rfl)
theorem dX1_richest_6 : decode cX1_richest 6 = .ok (.ifCond .le 7, 3) := dk_158 0 7 (dk_at dksX1_richest_0 6 rfl rfl)
theorem dX1_richest_9 : decode cX1_richest 9 = .ok (.iconst 1, 1) := dk_4 (dk_at dksX1_richest_0 9 rfl rfl)
theorem dX1_richest_10 : decode cX1_richest 10 = .ok (.goto 4, 3) := dk_167 0 4 (dk_at dksX1_richest_0 10 rfl rfl)
theorem dX1_richest_13 : decode cX1_richest 13 = .ok (.iconst 0, 1) := dk_3 (dk_at dksX1_richest_0 13 rfl rfl)
theorem dX1_richest_14 : decode cX1_richest 14 = .ok (.invokestatic 210, 3) := dk_184 0 210 (dk_at dksX1_richest_0 14 rfl rfl)
theorem dX1_richest_17 : decode cX1_richest 17 = .ok (.iconst 0, 1) := dk_3 (dk_at dksX1_richest_0 17 rfl rfl)
theorem dX1_richest_18 : decode cX1_richest 18 = .ok (.istore_n 2, 1) := dk_61 (dk_at dksX1_richest_0 18 rfl rfl)
theorem dX1_richest_19 : decode cX1_richest 19 = .ok (.ldc_w 346, 3) := dk_19 1 90 (dk_at dksX1_richest_0 19 rfl rfl)
theorem dX1_richest_22 : decode cX1_richest 22 = .ok (.fstore_n 3, 1) := dk_70 (dk_at dksX1_richest_0 22 rfl rfl)
theorem dX1_richest_23 : decode cX1_richest 23 = .ok (.iconst 0, 1) := dk_3 (dk_at dksX1_richest_0 23 rfl rfl)
theorem dX1_richest_24 : decode cX1_richest 24 = .ok (.istore 4, 2) := dk_54 4 (dk_at dksX1_richest_1 0 rfl rfl)
theorem dX1_richest_26 : decode cX1_richest 26 = .ok (.iload 4, 2) := dk_21 4 (dk_at dksX1_richest_1 2 rfl rfl)
theorem dX1_richest_28 : decode cX1_richest 28 = .ok (.iload_n 1, 1) := dk_27 (dk_at dksX1_richest_1 4 rfl rfl)
theorem dX1_richest_29 : decode cX1_richest 29 = .ok (.if_icmp .ge 56, 3) := dk_162 0 56 (dk_at dksX1_richest_1 5 rfl rfl)
theorem dX1_richest_32 : decode cX1_richest 32 = .ok (.aload_n 0, 1) := dk_42 (dk_at dksX1_richest_1 8 rfl rfl)
theorem dX1_richest_33 : decode cX1_richest 33 = .ok (.getfield 58, 3) := dk_180 0 58 (dk_at dksX1_richest_1 9 rfl rfl)
theorem dX1_richest_36 : decode cX1_richest 36 = .ok (.aload_n 0, 1) := dk_42 (dk_at dksX1_richest_1 12 rfl rfl)
theorem dX1_richest_37 : decode cX1_richest 37 = .ok (.getfield 28, 3) := dk_180 0 28 (dk_at dksX1_richest_1 13 rfl rfl)
theorem dX1_richest_40 : decode cX1_richest 40 = .ok (.iload 4, 2) := dk_21 4 (dk_at dksX1_richest_1 16 rfl rfl)
theorem dX1_richest_42 : decode cX1_richest 42 = .ok (.invokevirtual 284, 3) := dk_182 1 28 (dk_at dksX1_richest_1 18 rfl rfl)
theorem dX1_richest_45 : decode cX1_richest 45 = .ok (.aload_n 0, 1) := dk_42 (dk_at dksX1_richest_1 21 rfl rfl)
theorem dX1_richest_46 : decode cX1_richest 46 = .ok (.getfield 58, 3) := dk_180 0 58 (dk_at dksX1_richest_2 0 rfl rfl)
theorem dX1_richest_49 : decode cX1_richest 49 = .ok (.aload_n 0, 1) := dk_42 (dk_at dksX1_richest_2 3 rfl rfl)
theorem dX1_richest_50 : decode cX1_richest 50 = .ok (.getfield 28, 3) := dk_180 0 28 (dk_at dksX1_richest_2 4 rfl rfl)
theorem dX1_richest_53 : decode cX1_richest 53 = .ok (.invokevirtual 342, 3) := dk_182 1 86 (dk_at dksX1_richest_2 7 rfl rfl)
theorem dX1_richest_56 : decode cX1_richest 56 = .ok (.fstore 5, 2) := dk_56 5 (dk_at dksX1_richest_2 10 rfl rfl)
theorem dX1_richest_58 : decode cX1_richest 58 = .ok (.fload 5, 2) := dk_23 5 (dk_at dksX1_richest_2 12 rfl rfl)
theorem dX1_richest_60 : decode cX1_richest 60 = .ok (.fload_n 3, 1) := dk_37 (dk_at dksX1_richest_2 14 rfl rfl)
theorem dX1_richest_61 : decode cX1_richest 61 = .ok (.fcmp .l, 1) := dk_149 (dk_at dksX1_richest_2 15 rfl rfl)
theorem dX1_richest_62 : decode cX1_richest 62 = .ok (.ifCond .le 8, 3) := dk_158 0 8 (dk_at dksX1_richest_2 16 rfl rfl)
theorem dX1_richest_65 : decode cX1_richest 65 = .ok (.iload 4, 2) := dk_21 4 (dk_at dksX1_richest_2 19 rfl rfl)
theorem dX1_richest_67 : decode cX1_richest 67 = .ok (.goto 4, 3) := dk_167 0 4 (dk_at dksX1_richest_2 21 rfl rfl)
theorem dX1_richest_70 : decode cX1_richest 70 = .ok (.iload_n 2, 1) := dk_28 (dk_at dksX1_richest_3 0 rfl rfl)
theorem dX1_richest_71 : decode cX1_richest 71 = .ok (.istore_n 2, 1) := dk_61 (dk_at dksX1_richest_3 1 rfl rfl)
theorem dX1_richest_72 : decode cX1_richest 72 = .ok (.fload_n 3, 1) := dk_37 (dk_at dksX1_richest_3 2 rfl rfl)
theorem dX1_richest_73 : decode cX1_richest 73 = .ok (.fload 5, 2) := dk_23 5 (dk_at dksX1_richest_3 3 rfl rfl)
theorem dX1_richest_75 : decode cX1_richest 75 = .ok (.invokestatic 347, 3) := dk_184 1 91 (dk_at dksX1_richest_3 5 rfl rfl)
theorem dX1_richest_78 : decode cX1_richest 78 = .ok (.fstore_n 3, 1) := dk_70 (dk_at dksX1_richest_3 8 rfl rfl)
theorem dX1_richest_79 : decode cX1_richest 79 = .ok (.iinc 4 1, 3) := dk_132 4 1 (dk_at dksX1_richest_3 9 rfl rfl)
theorem dX1_richest_82 : decode cX1_richest 82 = .ok (.goto (-56), 3) := dk_167 255 200 (dk_at dksX1_richest_3 12 rfl rfl)
theorem dX1_richest_85 : decode cX1_richest 85 = .ok (.iload_n 2, 1) := dk_28 (dk_at dksX1_richest_3 15 rfl rfl)
theorem dX1_richest_86 : decode cX1_richest 86 = .ok (.ireturn, 1) := dk_172 (dk_at dksX1_richest_3 16 rfl rfl)
abbrev cX1_character : ByteArray := prog_1_method_47_code
def yX1_character : MethodName := ⟨RX1, "character", "(I)C"⟩
def dkwX1_character_1 : List UInt8 := [182, 1, 103, 172]
abbrev dktX1_character_1 : List UInt8 := dkwX1_character_1 ++ []
def dkwX1_character_0 : List UInt8 := [27, 3, 42, 180, 0, 76, 182, 1, 100, 4, 100, 184, 0, 124, 184, 0, 132, 42, 180, 0, 76, 27]
abbrev dktX1_character_0 : List UInt8 := dkwX1_character_0 ++ dktX1_character_1
theorem dksX1_character_0 : cX1_character.data.toList.drop 0 = dktX1_character_0 := by decide +kernel
theorem dksX1_character_1 : cX1_character.data.toList.drop 22 = dktX1_character_1 := dk_seg dksX1_character_0 22 rfl rfl
theorem dX1_character_0 : decode cX1_character 0 = .ok (.iload_n 1, 1) := dk_27 (dk_at dksX1_character_0 0 rfl rfl)
theorem dX1_character_1 : decode cX1_character 1 = .ok (.iconst 0, 1) := dk_3 (dk_at dksX1_character_0 1 rfl rfl)
theorem dX1_character_2 : decode cX1_character 2 = .ok (.aload_n 0, 1) := dk_42 (dk_at dksX1_character_0 2 rfl rfl)
theorem dX1_character_3 : decode cX1_character 3 = .ok (.getfield 76, 3) := dk_180 0 76 (dk_at dksX1_character_0 3 rfl rfl)
theorem dX1_character_6 : decode cX1_character 6 = .ok (.invokevirtual 356, 3) := dk_182 1 100 (dk_at dksX1_character_0 6 rfl rfl)
theorem dX1_character_9 : decode cX1_character 9 = .ok (.iconst 1, 1) := dk_4 (dk_at dksX1_character_0 9 rfl rfl)
theorem dX1_character_10 : decode cX1_character 10 = .ok (.isub, 1) := dk_100 (dk_at dksX1_character_0 10 rfl rfl)
theorem dX1_character_11 : decode cX1_character 11 = .ok (.invokestatic 124, 3) := dk_184 0 124 (dk_at dksX1_character_0 11 rfl rfl)
theorem dX1_character_14 : decode cX1_character 14 = .ok (.invokestatic 132, 3) := dk_184 0 132 (dk_at dksX1_character_0 14 rfl rfl)
theorem dX1_character_17 : decode cX1_character 17 = .ok (.aload_n 0, 1) := dk_42 (dk_at dksX1_character_0 17 rfl rfl)
theorem dX1_character_18 : decode cX1_character 18 = .ok (.getfield 76, 3) := dk_180 0 76 (dk_at dksX1_character_0 18 rfl rfl)
theorem dX1_character_21 : decode cX1_character 21 = .ok (.iload_n 1, 1) := dk_27 (dk_at dksX1_character_0 21 rfl rfl)
theorem dX1_character_22 : decode cX1_character 22 = .ok (.invokevirtual 359, 3) := dk_182 1 103 (dk_at dksX1_character_1 0 rfl rfl)
theorem dX1_character_25 : decode cX1_character 25 = .ok (.ireturn, 1) := dk_172 (dk_at dksX1_character_1 3 rfl rfl)
abbrev cX1_append : ByteArray := prog_1_method_48_code
def yX1_append : MethodName := ⟨RX1, "append", "(C)I"⟩
def dkwX1_append_1 : List UInt8 := [27, 182, 1, 110, 87, 42, 180, 0, 72, 182, 1, 100, 172]
abbrev dktX1_append_1 : List UInt8 := dkwX1_append_1 ++ []
def dkwX1_append_0 : List UInt8 := [42, 180, 0, 72, 182, 1, 100, 16, 60, 162, 0, 7, 4, 167, 0, 4, 3, 184, 1, 107, 42, 180, 0, 72]
abbrev dktX1_append_0 : List UInt8 := dkwX1_append_0 ++ dktX1_append_1
theorem dksX1_append_0 : cX1_append.data.toList.drop 0 = dktX1_append_0 := by decide +kernel
theorem dksX1_append_1 : cX1_append.data.toList.drop 24 = dktX1_append_1 := dk_seg dksX1_append_0 24 rfl rfl
theorem dX1_append_0 : decode cX1_append 0 = .ok (.aload_n 0, 1) := dk_42 (dk_at dksX1_append_0 0 rfl rfl)
theorem dX1_append_1 : decode cX1_append 1 = .ok (.getfield 72, 3) := dk_180 0 72 (dk_at dksX1_append_0 1 rfl rfl)
theorem dX1_append_4 : decode cX1_append 4 = .ok (.invokevirtual 356, 3) := dk_182 1 100 (dk_at dksX1_append_0 4 rfl rfl)
theorem dX1_append_7 : decode cX1_append 7 = .ok (.bipush 60, 2) := dk_16 60 (dk_at dksX1_append_0 7 rfl rfl)
theorem dX1_append_9 : decode cX1_append 9 = .ok (.if_icmp .ge 7, 3) := dk_162 0 7 (dk_at dksX1_append_0 9 rfl rfl)
theorem dX1_append_12 : decode cX1_append 12 = .ok (.iconst 1, 1) := dk_4 (dk_at dksX1_append_0 12 rfl rfl)
theorem dX1_append_13 : decode cX1_append 13 = .ok (.goto 4, 3) := dk_167 0 4 (dk_at dksX1_append_0 13 rfl rfl)
theorem dX1_append_16 : decode cX1_append 16 = .ok (.iconst 0, 1) := dk_3 (dk_at dksX1_append_0 16 rfl rfl)
theorem dX1_append_17 : decode cX1_append 17 = .ok (.invokestatic 363, 3) := dk_184 1 107 (dk_at dksX1_append_0 17 rfl rfl)
theorem dX1_append_20 : decode cX1_append 20 = .ok (.aload_n 0, 1) := dk_42 (dk_at dksX1_append_0 20 rfl rfl)
theorem dX1_append_21 : decode cX1_append 21 = .ok (.getfield 72, 3) := dk_180 0 72 (dk_at dksX1_append_0 21 rfl rfl)
theorem dX1_append_24 : decode cX1_append 24 = .ok (.iload_n 1, 1) := dk_27 (dk_at dksX1_append_1 0 rfl rfl)
theorem dX1_append_25 : decode cX1_append 25 = .ok (.invokevirtual 366, 3) := dk_182 1 110 (dk_at dksX1_append_1 1 rfl rfl)
theorem dX1_append_28 : decode cX1_append 28 = .ok (.pop, 1) := dk_87 (dk_at dksX1_append_1 4 rfl rfl)
theorem dX1_append_29 : decode cX1_append 29 = .ok (.aload_n 0, 1) := dk_42 (dk_at dksX1_append_1 5 rfl rfl)
theorem dX1_append_30 : decode cX1_append 30 = .ok (.getfield 72, 3) := dk_180 0 72 (dk_at dksX1_append_1 6 rfl rfl)
theorem dX1_append_33 : decode cX1_append 33 = .ok (.invokevirtual 356, 3) := dk_182 1 100 (dk_at dksX1_append_1 9 rfl rfl)
theorem dX1_append_36 : decode cX1_append 36 = .ok (.ireturn, 1) := dk_172 (dk_at dksX1_append_1 12 rfl rfl)
abbrev cX1_checkState : ByteArray := prog_1_method_8_code
def yX1_checkState : MethodName := ⟨RX1, "checkState", "(Z)V"⟩
def dkwX1_checkState_0 : List UInt8 := [26, 154, 0, 11, 187, 0, 102, 89, 183, 0, 104, 191, 177]
abbrev dktX1_checkState_0 : List UInt8 := dkwX1_checkState_0 ++ []
theorem dksX1_checkState_0 : cX1_checkState.data.toList.drop 0 = dktX1_checkState_0 := by decide +kernel
theorem dX1_checkState_0 : decode cX1_checkState 0 = .ok (.iload_n 0, 1) := dk_26 (dk_at dksX1_checkState_0 0 rfl rfl)
theorem dX1_checkState_1 : decode cX1_checkState 1 = .ok (.ifCond .ne 11, 3) := dk_154 0 11 (dk_at dksX1_checkState_0 1 rfl rfl)
theorem dX1_checkState_4 : decode cX1_checkState 4 = .ok (.new 102, 3) := dk_187 0 102 (dk_at dksX1_checkState_0 4 rfl rfl)
theorem dX1_checkState_7 : decode cX1_checkState 7 = .ok (.dup, 1) := dk_89 (dk_at dksX1_checkState_0 7 rfl rfl)
theorem dX1_checkState_8 : decode cX1_checkState 8 = .ok (.invokespecial 104, 3) := dk_183 0 104 (dk_at dksX1_checkState_0 8 rfl rfl)
theorem dX1_checkState_11 : decode cX1_checkState 11 = .ok (.athrow, 1) := dk_191 (dk_at dksX1_checkState_0 11 rfl rfl)
theorem dX1_checkState_12 : decode cX1_checkState 12 = .ok (.return_, 1) := dk_177 (dk_at dksX1_checkState_0 12 rfl rfl)
abbrev cX1_read : ByteArray := prog_1_method_49_code
def yX1_read : MethodName := ⟨RX1, "read", "()I"⟩
def dkwX1_read_3 : List UInt8 := [44, 191]
abbrev dktX1_read_3 : List UInt8 := dkwX1_read_3 ++ []
def dkwX1_read_2 : List UInt8 := [187, 0, 96, 89, 183, 0, 98, 191, 76, 42, 43, 182, 0, 172, 191, 77, 42, 180, 0, 72, 3, 182, 1, 94]
abbrev dktX1_read_2 : List UInt8 := dkwX1_read_2 ++ dktX1_read_3
def dkwX1_read_1 : List UInt8 := [182, 0, 168, 60, 42, 180, 0, 72, 3, 182, 1, 94, 27, 172, 76, 42, 43, 180, 1, 123, 181, 0, 88]
abbrev dktX1_read_1 : List UInt8 := dkwX1_read_1 ++ dktX1_read_2
def dkwX1_read_0 : List UInt8 := [42, 2, 181, 0, 88, 42, 180, 0, 84, 182, 1, 114, 42, 42, 182, 0, 160, 42, 180, 0, 84, 182, 1, 117]
abbrev dktX1_read_0 : List UInt8 := dkwX1_read_0 ++ dktX1_read_1
theorem dksX1_read_0 : cX1_read.data.toList.drop 0 = dktX1_read_0 := by decide +kernel
theorem dksX1_read_1 : cX1_read.data.toList.drop 24 = dktX1_read_1 := dk_seg dksX1_read_0 24 rfl rfl
theorem dksX1_read_2 : cX1_read.data.toList.drop 47 = dktX1_read_2 := dk_seg dksX1_read_1 23 rfl rfl
theorem dksX1_read_3 : cX1_read.data.toList.drop 71 = dktX1_read_3 := dk_seg dksX1_read_2 24 rfl rfl
theorem dX1_read_0 : decode cX1_read 0 = .ok (.aload_n 0, 1) := dk_42 (dk_at dksX1_read_0 0 rfl rfl)
theorem dX1_read_1 : decode cX1_read 1 = .ok (.iconst (-1), 1) := dk_2 (dk_at dksX1_read_0 1 rfl rfl)
theorem dX1_read_2 : decode cX1_read 2 = .ok (.putfield 88, 3) := dk_181 0 88 (dk_at dksX1_read_0 2 rfl rfl)
theorem dX1_read_5 : decode cX1_read 5 = .ok (.aload_n 0, 1) := dk_42 (dk_at dksX1_read_0 5 rfl rfl)
theorem dX1_read_6 : decode cX1_read 6 = .ok (.getfield 84, 3) := dk_180 0 84 (dk_at dksX1_read_0 6 rfl rfl)
theorem dX1_read_9 : decode cX1_read 9 = .ok (.invokevirtual 370, 3) := dk_182 1 114 (dk_at dksX1_read_0 9 rfl rfl)
theorem dX1_read_12 : decode cX1_read 12 = .ok (.aload_n 0, 1) := dk_42 (dk_at dksX1_read_0 12 rfl rfl)
theorem dX1_read_13 : decode cX1_read 13 = .ok (.aload_n 0, 1) := dk_42 (dk_at dksX1_read_0 13 rfl rfl)
theorem dX1_read_14 : decode cX1_read 14 = .ok (.invokevirtual 160, 3) := dk_182 0 160 (dk_at dksX1_read_0 14 rfl rfl)
theorem dX1_read_17 : decode cX1_read 17 = .ok (.aload_n 0, 1) := dk_42 (dk_at dksX1_read_0 17 rfl rfl)
theorem dX1_read_18 : decode cX1_read 18 = .ok (.getfield 84, 3) := dk_180 0 84 (dk_at dksX1_read_0 18 rfl rfl)
theorem dX1_read_21 : decode cX1_read 21 = .ok (.invokevirtual 373, 3) := dk_182 1 117 (dk_at dksX1_read_0 21 rfl rfl)
theorem dX1_read_24 : decode cX1_read 24 = .ok (.invokevirtual 168, 3) := dk_182 0 168 (dk_at dksX1_read_1 0 rfl rfl)
theorem dX1_read_27 : decode cX1_read 27 = .ok (.istore_n 1, 1) := dk_60 (dk_at dksX1_read_1 3 rfl rfl)
theorem dX1_read_28 : decode cX1_read 28 = .ok (.aload_n 0, 1) := dk_42 (dk_at dksX1_read_1 4 rfl rfl)
theorem dX1_read_29 : decode cX1_read 29 = .ok (.getfield 72, 3) := dk_180 0 72 (dk_at dksX1_read_1 5 rfl rfl)
theorem dX1_read_32 : decode cX1_read 32 = .ok (.iconst 0, 1) := dk_3 (dk_at dksX1_read_1 8 rfl rfl)
theorem dX1_read_33 : decode cX1_read 33 = .ok (.invokevirtual 350, 3) := dk_182 1 94 (dk_at dksX1_read_1 9 rfl rfl)
theorem dX1_read_36 : decode cX1_read 36 = .ok (.iload_n 1, 1) := dk_27 (dk_at dksX1_read_1 12 rfl rfl)
theorem dX1_read_37 : decode cX1_read 37 = .ok (.ireturn, 1) := dk_172 (dk_at dksX1_read_1 13 rfl rfl)
theorem dX1_read_38 : decode cX1_read 38 = .ok (.astore_n 1, 1) := dk_76 (dk_at dksX1_read_1 14 rfl rfl)
theorem dX1_read_39 : decode cX1_read 39 = .ok (.aload_n 0, 1) := dk_42 (dk_at dksX1_read_1 15 rfl rfl)
theorem dX1_read_40 : decode cX1_read 40 = .ok (.aload_n 1, 1) := dk_43 (dk_at dksX1_read_1 16 rfl rfl)
theorem dX1_read_41 : decode cX1_read 41 = .ok (.getfield 379, 3) := dk_180 1 123 (dk_at dksX1_read_1 17 rfl rfl)
theorem dX1_read_44 : decode cX1_read 44 = .ok (.putfield 88, 3) := dk_181 0 88 (dk_at dksX1_read_1 20 rfl rfl)
theorem dX1_read_47 : decode cX1_read 47 = .ok (.new 96, 3) := dk_187 0 96 (dk_at dksX1_read_2 0 rfl rfl)
theorem dX1_read_50 : decode cX1_read 50 = .ok (.dup, 1) := dk_89 (dk_at dksX1_read_2 3 rfl rfl)
theorem dX1_read_51 : decode cX1_read 51 = .ok (.invokespecial 98, 3) := dk_183 0 98 (dk_at dksX1_read_2 4 rfl rfl)
theorem dX1_read_54 : decode cX1_read 54 = .ok (.athrow, 1) := dk_191 (dk_at dksX1_read_2 7 rfl rfl)
theorem dX1_read_55 : decode cX1_read 55 = .ok (.astore_n 1, 1) := dk_76 (dk_at dksX1_read_2 8 rfl rfl)
theorem dX1_read_56 : decode cX1_read 56 = .ok (.aload_n 0, 1) := dk_42 (dk_at dksX1_read_2 9 rfl rfl)
theorem dX1_read_57 : decode cX1_read 57 = .ok (.aload_n 1, 1) := dk_43 (dk_at dksX1_read_2 10 rfl rfl)
theorem dX1_read_58 : decode cX1_read 58 = .ok (.invokevirtual 172, 3) := dk_182 0 172 (dk_at dksX1_read_2 11 rfl rfl)
theorem dX1_read_61 : decode cX1_read 61 = .ok (.athrow, 1) := dk_191 (dk_at dksX1_read_2 14 rfl rfl)
theorem dX1_read_62 : decode cX1_read 62 = .ok (.astore_n 2, 1) := dk_77 (dk_at dksX1_read_2 15 rfl rfl)
theorem dX1_read_63 : decode cX1_read 63 = .ok (.aload_n 0, 1) := dk_42 (dk_at dksX1_read_2 16 rfl rfl)
theorem dX1_read_64 : decode cX1_read 64 = .ok (.getfield 72, 3) := dk_180 0 72 (dk_at dksX1_read_2 17 rfl rfl)
theorem dX1_read_67 : decode cX1_read 67 = .ok (.iconst 0, 1) := dk_3 (dk_at dksX1_read_2 20 rfl rfl)
theorem dX1_read_68 : decode cX1_read 68 = .ok (.invokevirtual 350, 3) := dk_182 1 94 (dk_at dksX1_read_2 21 rfl rfl)
theorem dX1_read_71 : decode cX1_read 71 = .ok (.aload_n 2, 1) := dk_44 (dk_at dksX1_read_3 0 rfl rfl)
theorem dX1_read_72 : decode cX1_read 72 = .ok (.athrow, 1) := dk_191 (dk_at dksX1_read_3 1 rfl rfl)
abbrev cX1_refusal : ByteArray := prog_1_method_51_code
def yX1_refusal : MethodName := ⟨RX1, "refusal", "(Z)I"⟩
def dkwX1_refusal_1 : List UInt8 := [167, 0, 7, 42, 180, 0, 114, 172]
abbrev dktX1_refusal_1 : List UInt8 := dkwX1_refusal_1 ++ []
def dkwX1_refusal_0 : List UInt8 := [42, 180, 0, 114, 158, 0, 7, 4, 167, 0, 4, 3, 184, 0, 210, 27, 153, 0, 10, 42, 180, 0, 120]
abbrev dktX1_refusal_0 : List UInt8 := dkwX1_refusal_0 ++ dktX1_refusal_1
theorem dksX1_refusal_0 : cX1_refusal.data.toList.drop 0 = dktX1_refusal_0 := by decide +kernel
theorem dksX1_refusal_1 : cX1_refusal.data.toList.drop 23 = dktX1_refusal_1 := dk_seg dksX1_refusal_0 23 rfl rfl
theorem dX1_refusal_0 : decode cX1_refusal 0 = .ok (.aload_n 0, 1) := dk_42 (dk_at dksX1_refusal_0 0 rfl rfl)
theorem dX1_refusal_1 : decode cX1_refusal 1 = .ok (.getfield 114, 3) := dk_180 0 114 (dk_at dksX1_refusal_0 1 rfl rfl)
theorem dX1_refusal_4 : decode cX1_refusal 4 = .ok (.ifCond .le 7, 3) := dk_158 0 7 (dk_at dksX1_refusal_0 4 rfl rfl)
theorem dX1_refusal_7 : decode cX1_refusal 7 = .ok (.iconst 1, 1) := dk_4 (dk_at dksX1_refusal_0 7 rfl rfl)
theorem dX1_refusal_8 : decode cX1_refusal 8 = .ok (.goto 4, 3) := dk_167 0 4 (dk_at dksX1_refusal_0 8 rfl rfl)
theorem dX1_refusal_11 : decode cX1_refusal 11 = .ok (.iconst 0, 1) := dk_3 (dk_at dksX1_refusal_0 11 rfl rfl)
theorem dX1_refusal_12 : decode cX1_refusal 12 = .ok (.invokestatic 210, 3) := dk_184 0 210 (dk_at dksX1_refusal_0 12 rfl rfl)
theorem dX1_refusal_15 : decode cX1_refusal 15 = .ok (.iload_n 1, 1) := dk_27 (dk_at dksX1_refusal_0 15 rfl rfl)
theorem dX1_refusal_16 : decode cX1_refusal 16 = .ok (.ifCond .eq 10, 3) := dk_153 0 10 (dk_at dksX1_refusal_0 16 rfl rfl)
theorem dX1_refusal_19 : decode cX1_refusal 19 = .ok (.aload_n 0, 1) := dk_42 (dk_at dksX1_refusal_0 19 rfl rfl)
theorem dX1_refusal_20 : decode cX1_refusal 20 = .ok (.getfield 120, 3) := dk_180 0 120 (dk_at dksX1_refusal_0 20 rfl rfl)
theorem dX1_refusal_23 : decode cX1_refusal 23 = .ok (.goto 7, 3) := dk_167 0 7 (dk_at dksX1_refusal_1 0 rfl rfl)
theorem dX1_refusal_26 : decode cX1_refusal 26 = .ok (.aload_n 0, 1) := dk_42 (dk_at dksX1_refusal_1 3 rfl rfl)
theorem dX1_refusal_27 : decode cX1_refusal 27 = .ok (.getfield 114, 3) := dk_180 0 114 (dk_at dksX1_refusal_1 4 rfl rfl)
theorem dX1_refusal_30 : decode cX1_refusal 30 = .ok (.ireturn, 1) := dk_172 (dk_at dksX1_refusal_1 7 rfl rfl)
abbrev cX1_account : ByteArray := prog_1_method_53_code
def yX1_account : MethodName := ⟨RX1, "account", "(I)I"⟩
def dkwX1_account_6 : List UInt8 := [180, 0, 41, 182, 1, 136, 172]
abbrev dktX1_account_6 : List UInt8 := dkwX1_account_6 ++ []
def dkwX1_account_5 : List UInt8 := [167, 0, 4, 2, 172, 42, 180, 0, 28, 180, 0, 151, 172, 42, 180, 0, 72, 182, 1, 100, 172, 42]
abbrev dktX1_account_5 : List UInt8 := dkwX1_account_5 ++ dktX1_account_6
def dkwX1_account_4 : List UInt8 := [42, 180, 0, 28, 182, 1, 131, 172, 42, 182, 1, 21, 153, 0, 13, 42, 180, 0, 65, 180, 1, 133]
abbrev dktX1_account_4 : List UInt8 := dkwX1_account_4 ++ dktX1_account_5
def dkwX1_account_3 : List UInt8 := [42, 180, 0, 28, 4, 182, 0, 207, 96, 42, 180, 0, 28, 5, 182, 0, 207, 96, 172, 42, 182, 1, 128, 172]
abbrev dktX1_account_3 : List UInt8 := dkwX1_account_3 ++ dktX1_account_4
def dkwX1_account_2 : List UInt8 := [42, 180, 0, 28, 180, 1, 126, 172, 42, 180, 0, 28, 180, 0, 237, 172, 42, 180, 0, 28, 3, 182, 0, 207]
abbrev dktX1_account_2 : List UInt8 := dkwX1_account_2 ++ dktX1_account_3
def dkwX1_account_1 : List UInt8 := [170, 0, 0, 0, 136, 0, 0, 0, 0, 0, 0, 0, 7, 0, 0, 0, 45, 0, 0, 0, 53, 0, 0, 0, 61, 0, 0, 0, 88, 0, 0, 0, 93, 0, 0, 0, 101, 0, 0, 0, 120, 0, 0, 0, 128]
abbrev dktX1_account_1 : List UInt8 := dkwX1_account_1 ++ dktX1_account_2
def dkwX1_account_0 : List UInt8 := [27, 3, 16, 8, 184, 0, 124, 184, 0, 157, 27]
abbrev dktX1_account_0 : List UInt8 := dkwX1_account_0 ++ dktX1_account_1
theorem dksX1_account_0 : cX1_account.data.toList.drop 0 = dktX1_account_0 := by decide +kernel
theorem dksX1_account_1 : cX1_account.data.toList.drop 11 = dktX1_account_1 := dk_seg dksX1_account_0 11 rfl rfl
theorem dksX1_account_2 : cX1_account.data.toList.drop 56 = dktX1_account_2 := dk_seg dksX1_account_1 45 rfl rfl
theorem dksX1_account_3 : cX1_account.data.toList.drop 80 = dktX1_account_3 := dk_seg dksX1_account_2 24 rfl rfl
theorem dksX1_account_4 : cX1_account.data.toList.drop 104 = dktX1_account_4 := dk_seg dksX1_account_3 24 rfl rfl
theorem dksX1_account_5 : cX1_account.data.toList.drop 126 = dktX1_account_5 := dk_seg dksX1_account_4 22 rfl rfl
theorem dksX1_account_6 : cX1_account.data.toList.drop 148 = dktX1_account_6 := dk_seg dksX1_account_5 22 rfl rfl
theorem dX1_account_0 : decode cX1_account 0 = .ok (.iload_n 1, 1) := dk_27 (dk_at dksX1_account_0 0 rfl rfl)
theorem dX1_account_1 : decode cX1_account 1 = .ok (.iconst 0, 1) := dk_3 (dk_at dksX1_account_0 1 rfl rfl)
theorem dX1_account_2 : decode cX1_account 2 = .ok (.bipush 8, 2) := dk_16 8 (dk_at dksX1_account_0 2 rfl rfl)
theorem dX1_account_4 : decode cX1_account 4 = .ok (.invokestatic 124, 3) := dk_184 0 124 (dk_at dksX1_account_0 4 rfl rfl)
theorem dX1_account_7 : decode cX1_account 7 = .ok (.invokestatic 157, 3) := dk_184 0 157 (dk_at dksX1_account_0 7 rfl rfl)
theorem dX1_account_10 : decode cX1_account 10 = .ok (.iload_n 1, 1) := dk_27 (dk_at dksX1_account_0 10 rfl rfl)
theorem dX1_account_11 : decode cX1_account 11 = .ok (.tableswitch 136 0 7 #[45, 53, 61, 88, 93, 101, 120, 128], 45) := by decide +kernel
theorem dX1_account_56 : decode cX1_account 56 = .ok (.aload_n 0, 1) := dk_42 (dk_at dksX1_account_2 0 rfl rfl)
theorem dX1_account_57 : decode cX1_account 57 = .ok (.getfield 28, 3) := dk_180 0 28 (dk_at dksX1_account_2 1 rfl rfl)
theorem dX1_account_60 : decode cX1_account 60 = .ok (.getfield 382, 3) := dk_180 1 126 (dk_at dksX1_account_2 4 rfl rfl)
theorem dX1_account_63 : decode cX1_account 63 = .ok (.ireturn, 1) := dk_172 (dk_at dksX1_account_2 7 rfl rfl)
theorem dX1_account_64 : decode cX1_account 64 = .ok (.aload_n 0, 1) := dk_42 (dk_at dksX1_account_2 8 rfl rfl)
theorem dX1_account_65 : decode cX1_account 65 = .ok (.getfield 28, 3) := dk_180 0 28 (dk_at dksX1_account_2 9 rfl rfl)
theorem dX1_account_68 : decode cX1_account 68 = .ok (.getfield 237, 3) := dk_180 0 237 (dk_at dksX1_account_2 12 rfl rfl)
theorem dX1_account_71 : decode cX1_account 71 = .ok (.ireturn, 1) := dk_172 (dk_at dksX1_account_2 15 rfl rfl)
theorem dX1_account_72 : decode cX1_account 72 = .ok (.aload_n 0, 1) := dk_42 (dk_at dksX1_account_2 16 rfl rfl)
theorem dX1_account_73 : decode cX1_account 73 = .ok (.getfield 28, 3) := dk_180 0 28 (dk_at dksX1_account_2 17 rfl rfl)
theorem dX1_account_76 : decode cX1_account 76 = .ok (.iconst 0, 1) := dk_3 (dk_at dksX1_account_2 20 rfl rfl)
theorem dX1_account_77 : decode cX1_account 77 = .ok (.invokevirtual 207, 3) := dk_182 0 207 (dk_at dksX1_account_2 21 rfl rfl)
theorem dX1_account_80 : decode cX1_account 80 = .ok (.aload_n 0, 1) := dk_42 (dk_at dksX1_account_3 0 rfl rfl)
theorem dX1_account_81 : decode cX1_account 81 = .ok (.getfield 28, 3) := dk_180 0 28 (dk_at dksX1_account_3 1 rfl rfl)
theorem dX1_account_84 : decode cX1_account 84 = .ok (.iconst 1, 1) := dk_4 (dk_at dksX1_account_3 4 rfl rfl)
theorem dX1_account_85 : decode cX1_account 85 = .ok (.invokevirtual 207, 3) := dk_182 0 207 (dk_at dksX1_account_3 5 rfl rfl)
theorem dX1_account_88 : decode cX1_account 88 = .ok (.iadd, 1) := dk_96 (dk_at dksX1_account_3 8 rfl rfl)
theorem dX1_account_89 : decode cX1_account 89 = .ok (.aload_n 0, 1) := dk_42 (dk_at dksX1_account_3 9 rfl rfl)
theorem dX1_account_90 : decode cX1_account 90 = .ok (.getfield 28, 3) := dk_180 0 28 (dk_at dksX1_account_3 10 rfl rfl)
theorem dX1_account_93 : decode cX1_account 93 = .ok (.iconst 2, 1) := dk_5 (dk_at dksX1_account_3 13 rfl rfl)
theorem dX1_account_94 : decode cX1_account 94 = .ok (.invokevirtual 207, 3) := dk_182 0 207 (dk_at dksX1_account_3 14 rfl rfl)
theorem dX1_account_97 : decode cX1_account 97 = .ok (.iadd, 1) := dk_96 (dk_at dksX1_account_3 17 rfl rfl)
theorem dX1_account_98 : decode cX1_account 98 = .ok (.ireturn, 1) := dk_172 (dk_at dksX1_account_3 18 rfl rfl)
theorem dX1_account_99 : decode cX1_account 99 = .ok (.aload_n 0, 1) := dk_42 (dk_at dksX1_account_3 19 rfl rfl)
theorem dX1_account_100 : decode cX1_account 100 = .ok (.invokevirtual 384, 3) := dk_182 1 128 (dk_at dksX1_account_3 20 rfl rfl)
theorem dX1_account_103 : decode cX1_account 103 = .ok (.ireturn, 1) := dk_172 (dk_at dksX1_account_3 23 rfl rfl)
theorem dX1_account_104 : decode cX1_account 104 = .ok (.aload_n 0, 1) := dk_42 (dk_at dksX1_account_4 0 rfl rfl)
theorem dX1_account_105 : decode cX1_account 105 = .ok (.getfield 28, 3) := dk_180 0 28 (dk_at dksX1_account_4 1 rfl rfl)
theorem dX1_account_108 : decode cX1_account 108 = .ok (.invokevirtual 387, 3) := dk_182 1 131 (dk_at dksX1_account_4 4 rfl rfl)
theorem dX1_account_111 : decode cX1_account 111 = .ok (.ireturn, 1) := dk_172 (dk_at dksX1_account_4 7 rfl rfl)
theorem dX1_account_112 : decode cX1_account 112 = .ok (.aload_n 0, 1) := dk_42 (dk_at dksX1_account_4 8 rfl rfl)
theorem dX1_account_113 : decode cX1_account 113 = .ok (.invokevirtual 277, 3) := dk_182 1 21 (dk_at dksX1_account_4 9 rfl rfl)
theorem dX1_account_116 : decode cX1_account 116 = .ok (.ifCond .eq 13, 3) := dk_153 0 13 (dk_at dksX1_account_4 12 rfl rfl)
theorem dX1_account_119 : decode cX1_account 119 = .ok (.aload_n 0, 1) := dk_42 (dk_at dksX1_account_4 15 rfl rfl)
theorem dX1_account_120 : decode cX1_account 120 = .ok (.getfield 65, 3) := dk_180 0 65 (dk_at dksX1_account_4 16 rfl rfl)
theorem dX1_account_123 : decode cX1_account 123 = .ok (.getfield 389, 3) := dk_180 1 133 (dk_at dksX1_account_4 19 rfl rfl)
theorem dX1_account_126 : decode cX1_account 126 = .ok (.goto 4, 3) := dk_167 0 4 (dk_at dksX1_account_5 0 rfl rfl)
theorem dX1_account_129 : decode cX1_account 129 = .ok (.iconst (-1), 1) := dk_2 (dk_at dksX1_account_5 3 rfl rfl)
theorem dX1_account_130 : decode cX1_account 130 = .ok (.ireturn, 1) := dk_172 (dk_at dksX1_account_5 4 rfl rfl)
theorem dX1_account_131 : decode cX1_account 131 = .ok (.aload_n 0, 1) := dk_42 (dk_at dksX1_account_5 5 rfl rfl)
theorem dX1_account_132 : decode cX1_account 132 = .ok (.getfield 28, 3) := dk_180 0 28 (dk_at dksX1_account_5 6 rfl rfl)
theorem dX1_account_135 : decode cX1_account 135 = .ok (.getfield 151, 3) := dk_180 0 151 (dk_at dksX1_account_5 9 rfl rfl)
theorem dX1_account_138 : decode cX1_account 138 = .ok (.ireturn, 1) := dk_172 (dk_at dksX1_account_5 12 rfl rfl)
theorem dX1_account_139 : decode cX1_account 139 = .ok (.aload_n 0, 1) := dk_42 (dk_at dksX1_account_5 13 rfl rfl)
theorem dX1_account_140 : decode cX1_account 140 = .ok (.getfield 72, 3) := dk_180 0 72 (dk_at dksX1_account_5 14 rfl rfl)
theorem dX1_account_143 : decode cX1_account 143 = .ok (.invokevirtual 356, 3) := dk_182 1 100 (dk_at dksX1_account_5 17 rfl rfl)
theorem dX1_account_146 : decode cX1_account 146 = .ok (.ireturn, 1) := dk_172 (dk_at dksX1_account_5 20 rfl rfl)
theorem dX1_account_147 : decode cX1_account 147 = .ok (.aload_n 0, 1) := dk_42 (dk_at dksX1_account_5 21 rfl rfl)
theorem dX1_account_148 : decode cX1_account 148 = .ok (.getfield 41, 3) := dk_180 0 41 (dk_at dksX1_account_6 0 rfl rfl)
theorem dX1_account_151 : decode cX1_account 151 = .ok (.invokevirtual 392, 3) := dk_182 1 136 (dk_at dksX1_account_6 3 rfl rfl)
theorem dX1_account_154 : decode cX1_account 154 = .ok (.ireturn, 1) := dk_172 (dk_at dksX1_account_6 6 rfl rfl)
abbrev cX1_allWorth : ByteArray := prog_1_method_52_code
def yX1_allWorth : MethodName := ⟨RX1, "allWorth", "()I"⟩
def dkwX1_allWorth_1 : List UInt8 := [50, 180, 0, 195, 96, 60, 132, 2, 1, 167, 255, 227, 27, 172]
abbrev dktX1_allWorth_1 : List UInt8 := dkwX1_allWorth_1 ++ []
def dkwX1_allWorth_0 : List UInt8 := [3, 60, 3, 61, 28, 42, 180, 0, 28, 180, 1, 126, 162, 0, 24, 27, 42, 180, 0, 28, 180, 0, 192, 28]
abbrev dktX1_allWorth_0 : List UInt8 := dkwX1_allWorth_0 ++ dktX1_allWorth_1
theorem dksX1_allWorth_0 : cX1_allWorth.data.toList.drop 0 = dktX1_allWorth_0 := by decide +kernel
theorem dksX1_allWorth_1 : cX1_allWorth.data.toList.drop 24 = dktX1_allWorth_1 := dk_seg dksX1_allWorth_0 24 rfl rfl
theorem dX1_allWorth_0 : decode cX1_allWorth 0 = .ok (.iconst 0, 1) := dk_3 (dk_at dksX1_allWorth_0 0 rfl rfl)
theorem dX1_allWorth_1 : decode cX1_allWorth 1 = .ok (.istore_n 1, 1) := dk_60 (dk_at dksX1_allWorth_0 1 rfl rfl)
theorem dX1_allWorth_2 : decode cX1_allWorth 2 = .ok (.iconst 0, 1) := dk_3 (dk_at dksX1_allWorth_0 2 rfl rfl)
theorem dX1_allWorth_3 : decode cX1_allWorth 3 = .ok (.istore_n 2, 1) := dk_61 (dk_at dksX1_allWorth_0 3 rfl rfl)
theorem dX1_allWorth_4 : decode cX1_allWorth 4 = .ok (.iload_n 2, 1) := dk_28 (dk_at dksX1_allWorth_0 4 rfl rfl)
theorem dX1_allWorth_5 : decode cX1_allWorth 5 = .ok (.aload_n 0, 1) := dk_42 (dk_at dksX1_allWorth_0 5 rfl rfl)
theorem dX1_allWorth_6 : decode cX1_allWorth 6 = .ok (.getfield 28, 3) := dk_180 0 28 (dk_at dksX1_allWorth_0 6 rfl rfl)
theorem dX1_allWorth_9 : decode cX1_allWorth 9 = .ok (.getfield 382, 3) := dk_180 1 126 (dk_at dksX1_allWorth_0 9 rfl rfl)
theorem dX1_allWorth_12 : decode cX1_allWorth 12 = .ok (.if_icmp .ge 24, 3) := dk_162 0 24 (dk_at dksX1_allWorth_0 12 rfl rfl)
theorem dX1_allWorth_15 : decode cX1_allWorth 15 = .ok (.iload_n 1, 1) := dk_27 (dk_at dksX1_allWorth_0 15 rfl rfl)
theorem dX1_allWorth_16 : decode cX1_allWorth 16 = .ok (.aload_n 0, 1) := dk_42 (dk_at dksX1_allWorth_0 16 rfl rfl)
theorem dX1_allWorth_17 : decode cX1_allWorth 17 = .ok (.getfield 28, 3) := dk_180 0 28 (dk_at dksX1_allWorth_0 17 rfl rfl)
theorem dX1_allWorth_20 : decode cX1_allWorth 20 = .ok (.getfield 192, 3) := dk_180 0 192 (dk_at dksX1_allWorth_0 20 rfl rfl)
theorem dX1_allWorth_23 : decode cX1_allWorth 23 = .ok (.iload_n 2, 1) := dk_28 (dk_at dksX1_allWorth_0 23 rfl rfl)
theorem dX1_allWorth_24 : decode cX1_allWorth 24 = .ok (.aaload, 1) := dk_50 (dk_at dksX1_allWorth_1 0 rfl rfl)
theorem dX1_allWorth_25 : decode cX1_allWorth 25 = .ok (.getfield 195, 3) := dk_180 0 195 (dk_at dksX1_allWorth_1 1 rfl rfl)
theorem dX1_allWorth_28 : decode cX1_allWorth 28 = .ok (.iadd, 1) := dk_96 (dk_at dksX1_allWorth_1 4 rfl rfl)
theorem dX1_allWorth_29 : decode cX1_allWorth 29 = .ok (.istore_n 1, 1) := dk_60 (dk_at dksX1_allWorth_1 5 rfl rfl)
theorem dX1_allWorth_30 : decode cX1_allWorth 30 = .ok (.iinc 2 1, 3) := dk_132 2 1 (dk_at dksX1_allWorth_1 6 rfl rfl)
theorem dX1_allWorth_33 : decode cX1_allWorth 33 = .ok (.goto (-29), 3) := dk_167 255 227 (dk_at dksX1_allWorth_1 9 rfl rfl)
theorem dX1_allWorth_36 : decode cX1_allWorth 36 = .ok (.iload_n 1, 1) := dk_27 (dk_at dksX1_allWorth_1 12 rfl rfl)
theorem dX1_allWorth_37 : decode cX1_allWorth 37 = .ok (.ireturn, 1) := dk_172 (dk_at dksX1_allWorth_1 13 rfl rfl)
abbrev cX1_meanWorth : ByteArray := prog_1_method_55_code
def yX1_meanWorth : MethodName := ⟨RX1, "meanWorth", "()D"⟩
def dkwX1_meanWorth_1 : List UInt8 := [180, 0, 28, 180, 1, 126, 135, 111, 175]
abbrev dktX1_meanWorth_1 : List UInt8 := dkwX1_meanWorth_1 ++ []
def dkwX1_meanWorth_0 : List UInt8 := [42, 180, 0, 28, 180, 1, 126, 158, 0, 7, 4, 167, 0, 4, 3, 184, 1, 145, 42, 182, 1, 128, 135, 42]
abbrev dktX1_meanWorth_0 : List UInt8 := dkwX1_meanWorth_0 ++ dktX1_meanWorth_1
theorem dksX1_meanWorth_0 : cX1_meanWorth.data.toList.drop 0 = dktX1_meanWorth_0 := by decide +kernel
theorem dksX1_meanWorth_1 : cX1_meanWorth.data.toList.drop 24 = dktX1_meanWorth_1 := dk_seg dksX1_meanWorth_0 24 rfl rfl
theorem dX1_meanWorth_0 : decode cX1_meanWorth 0 = .ok (.aload_n 0, 1) := dk_42 (dk_at dksX1_meanWorth_0 0 rfl rfl)
theorem dX1_meanWorth_1 : decode cX1_meanWorth 1 = .ok (.getfield 28, 3) := dk_180 0 28 (dk_at dksX1_meanWorth_0 1 rfl rfl)
theorem dX1_meanWorth_4 : decode cX1_meanWorth 4 = .ok (.getfield 382, 3) := dk_180 1 126 (dk_at dksX1_meanWorth_0 4 rfl rfl)
theorem dX1_meanWorth_7 : decode cX1_meanWorth 7 = .ok (.ifCond .le 7, 3) := dk_158 0 7 (dk_at dksX1_meanWorth_0 7 rfl rfl)
theorem dX1_meanWorth_10 : decode cX1_meanWorth 10 = .ok (.iconst 1, 1) := dk_4 (dk_at dksX1_meanWorth_0 10 rfl rfl)
theorem dX1_meanWorth_11 : decode cX1_meanWorth 11 = .ok (.goto 4, 3) := dk_167 0 4 (dk_at dksX1_meanWorth_0 11 rfl rfl)
theorem dX1_meanWorth_14 : decode cX1_meanWorth 14 = .ok (.iconst 0, 1) := dk_3 (dk_at dksX1_meanWorth_0 14 rfl rfl)
theorem dX1_meanWorth_15 : decode cX1_meanWorth 15 = .ok (.invokestatic 401, 3) := dk_184 1 145 (dk_at dksX1_meanWorth_0 15 rfl rfl)
theorem dX1_meanWorth_18 : decode cX1_meanWorth 18 = .ok (.aload_n 0, 1) := dk_42 (dk_at dksX1_meanWorth_0 18 rfl rfl)
theorem dX1_meanWorth_19 : decode cX1_meanWorth 19 = .ok (.invokevirtual 384, 3) := dk_182 1 128 (dk_at dksX1_meanWorth_0 19 rfl rfl)
theorem dX1_meanWorth_22 : decode cX1_meanWorth 22 = .ok (.i2d, 1) := dk_135 (dk_at dksX1_meanWorth_0 22 rfl rfl)
theorem dX1_meanWorth_23 : decode cX1_meanWorth 23 = .ok (.aload_n 0, 1) := dk_42 (dk_at dksX1_meanWorth_0 23 rfl rfl)
theorem dX1_meanWorth_24 : decode cX1_meanWorth 24 = .ok (.getfield 28, 3) := dk_180 0 28 (dk_at dksX1_meanWorth_1 0 rfl rfl)
theorem dX1_meanWorth_27 : decode cX1_meanWorth 27 = .ok (.getfield 382, 3) := dk_180 1 126 (dk_at dksX1_meanWorth_1 3 rfl rfl)
theorem dX1_meanWorth_30 : decode cX1_meanWorth 30 = .ok (.i2d, 1) := dk_135 (dk_at dksX1_meanWorth_1 6 rfl rfl)
theorem dX1_meanWorth_31 : decode cX1_meanWorth 31 = .ok (.ddiv, 1) := dk_111 (dk_at dksX1_meanWorth_1 7 rfl rfl)
theorem dX1_meanWorth_32 : decode cX1_meanWorth 32 = .ok (.dreturn, 1) := dk_175 (dk_at dksX1_meanWorth_1 8 rfl rfl)
abbrev cX1_checkAny : ByteArray := prog_1_method_10_code
def yX1_checkAny : MethodName := ⟨RX1, "checkAny", "(Z)V"⟩
def dkwX1_checkAny_0 : List UInt8 := [26, 154, 0, 11, 187, 0, 108, 89, 183, 0, 110, 191, 177]
abbrev dktX1_checkAny_0 : List UInt8 := dkwX1_checkAny_0 ++ []
theorem dksX1_checkAny_0 : cX1_checkAny.data.toList.drop 0 = dktX1_checkAny_0 := by decide +kernel
theorem dX1_checkAny_0 : decode cX1_checkAny 0 = .ok (.iload_n 0, 1) := dk_26 (dk_at dksX1_checkAny_0 0 rfl rfl)
theorem dX1_checkAny_1 : decode cX1_checkAny 1 = .ok (.ifCond .ne 11, 3) := dk_154 0 11 (dk_at dksX1_checkAny_0 1 rfl rfl)
theorem dX1_checkAny_4 : decode cX1_checkAny 4 = .ok (.new 108, 3) := dk_187 0 108 (dk_at dksX1_checkAny_0 4 rfl rfl)
theorem dX1_checkAny_7 : decode cX1_checkAny 7 = .ok (.dup, 1) := dk_89 (dk_at dksX1_checkAny_0 7 rfl rfl)
theorem dX1_checkAny_8 : decode cX1_checkAny 8 = .ok (.invokespecial 110, 3) := dk_183 0 110 (dk_at dksX1_checkAny_0 8 rfl rfl)
theorem dX1_checkAny_11 : decode cX1_checkAny 11 = .ok (.athrow, 1) := dk_191 (dk_at dksX1_checkAny_0 11 rfl rfl)
theorem dX1_checkAny_12 : decode cX1_checkAny 12 = .ok (.return_, 1) := dk_177 (dk_at dksX1_checkAny_0 12 rfl rfl)
abbrev cX1_undo : ByteArray := prog_1_method_56_code
def yX1_undo : MethodName := ⟨RX1, "undo", "()I"⟩
def dkwX1_undo_2 : List UInt8 := [180, 0, 41, 182, 1, 136, 172]
abbrev dktX1_undo_2 : List UInt8 := dkwX1_undo_2 ++ []
def dkwX1_undo_1 : List UInt8 := [182, 1, 148, 192, 0, 25, 76, 42, 180, 0, 28, 43, 182, 0, 144, 42, 180, 0, 45, 43, 182, 0, 92, 42]
abbrev dktX1_undo_1 : List UInt8 := dkwX1_undo_1 ++ dktX1_undo_2
def dkwX1_undo_0 : List UInt8 := [42, 180, 0, 41, 182, 0, 136, 154, 0, 7, 4, 167, 0, 4, 3, 184, 1, 107, 42, 180, 0, 41]
abbrev dktX1_undo_0 : List UInt8 := dkwX1_undo_0 ++ dktX1_undo_1
theorem dksX1_undo_0 : cX1_undo.data.toList.drop 0 = dktX1_undo_0 := by decide +kernel
theorem dksX1_undo_1 : cX1_undo.data.toList.drop 22 = dktX1_undo_1 := dk_seg dksX1_undo_0 22 rfl rfl
theorem dksX1_undo_2 : cX1_undo.data.toList.drop 46 = dktX1_undo_2 := dk_seg dksX1_undo_1 24 rfl rfl
theorem dX1_undo_0 : decode cX1_undo 0 = .ok (.aload_n 0, 1) := dk_42 (dk_at dksX1_undo_0 0 rfl rfl)
theorem dX1_undo_1 : decode cX1_undo 1 = .ok (.getfield 41, 3) := dk_180 0 41 (dk_at dksX1_undo_0 1 rfl rfl)
theorem dX1_undo_4 : decode cX1_undo 4 = .ok (.invokevirtual 136, 3) := dk_182 0 136 (dk_at dksX1_undo_0 4 rfl rfl)
theorem dX1_undo_7 : decode cX1_undo 7 = .ok (.ifCond .ne 7, 3) := dk_154 0 7 (dk_at dksX1_undo_0 7 rfl rfl)
theorem dX1_undo_10 : decode cX1_undo 10 = .ok (.iconst 1, 1) := dk_4 (dk_at dksX1_undo_0 10 rfl rfl)
theorem dX1_undo_11 : decode cX1_undo 11 = .ok (.goto 4, 3) := dk_167 0 4 (dk_at dksX1_undo_0 11 rfl rfl)
theorem dX1_undo_14 : decode cX1_undo 14 = .ok (.iconst 0, 1) := dk_3 (dk_at dksX1_undo_0 14 rfl rfl)
theorem dX1_undo_15 : decode cX1_undo 15 = .ok (.invokestatic 363, 3) := dk_184 1 107 (dk_at dksX1_undo_0 15 rfl rfl)
theorem dX1_undo_18 : decode cX1_undo 18 = .ok (.aload_n 0, 1) := dk_42 (dk_at dksX1_undo_0 18 rfl rfl)
theorem dX1_undo_19 : decode cX1_undo 19 = .ok (.getfield 41, 3) := dk_180 0 41 (dk_at dksX1_undo_0 19 rfl rfl)
theorem dX1_undo_22 : decode cX1_undo 22 = .ok (.invokevirtual 404, 3) := dk_182 1 148 (dk_at dksX1_undo_1 0 rfl rfl)
theorem dX1_undo_25 : decode cX1_undo 25 = .ok (.checkcast 25, 3) := dk_192 0 25 (dk_at dksX1_undo_1 3 rfl rfl)
theorem dX1_undo_28 : decode cX1_undo 28 = .ok (.astore_n 1, 1) := dk_76 (dk_at dksX1_undo_1 6 rfl rfl)
theorem dX1_undo_29 : decode cX1_undo 29 = .ok (.aload_n 0, 1) := dk_42 (dk_at dksX1_undo_1 7 rfl rfl)
theorem dX1_undo_30 : decode cX1_undo 30 = .ok (.getfield 28, 3) := dk_180 0 28 (dk_at dksX1_undo_1 8 rfl rfl)
theorem dX1_undo_33 : decode cX1_undo 33 = .ok (.aload_n 1, 1) := dk_43 (dk_at dksX1_undo_1 11 rfl rfl)
theorem dX1_undo_34 : decode cX1_undo 34 = .ok (.invokevirtual 144, 3) := dk_182 0 144 (dk_at dksX1_undo_1 12 rfl rfl)
theorem dX1_undo_37 : decode cX1_undo 37 = .ok (.aload_n 0, 1) := dk_42 (dk_at dksX1_undo_1 15 rfl rfl)
theorem dX1_undo_38 : decode cX1_undo 38 = .ok (.getfield 45, 3) := dk_180 0 45 (dk_at dksX1_undo_1 16 rfl rfl)
theorem dX1_undo_41 : decode cX1_undo 41 = .ok (.aload_n 1, 1) := dk_43 (dk_at dksX1_undo_1 19 rfl rfl)
theorem dX1_undo_42 : decode cX1_undo 42 = .ok (.invokevirtual 92, 3) := dk_182 0 92 (dk_at dksX1_undo_1 20 rfl rfl)
theorem dX1_undo_45 : decode cX1_undo 45 = .ok (.aload_n 0, 1) := dk_42 (dk_at dksX1_undo_1 23 rfl rfl)
theorem dX1_undo_46 : decode cX1_undo 46 = .ok (.getfield 41, 3) := dk_180 0 41 (dk_at dksX1_undo_2 0 rfl rfl)
theorem dX1_undo_49 : decode cX1_undo 49 = .ok (.invokevirtual 392, 3) := dk_182 1 136 (dk_at dksX1_undo_2 3 rfl rfl)
theorem dX1_undo_52 : decode cX1_undo 52 = .ok (.ireturn, 1) := dk_172 (dk_at dksX1_undo_2 6 rfl rfl)
abbrev cX1_restore : ByteArray := prog_1_method_58_code
def yX1_restore : MethodName := ⟨RX1, "restore", "()I"⟩
def dkwX1_restore_2 : List UInt8 := [167, 255, 229, 42, 180, 0, 28, 180, 0, 237, 172]
abbrev dktX1_restore_2 : List UInt8 := dkwX1_restore_2 ++ []
def dkwX1_restore_1 : List UInt8 := [182, 0, 136, 154, 0, 23, 42, 180, 0, 45, 42, 180, 0, 41, 182, 1, 148, 192, 0, 25, 182, 0, 92]
abbrev dktX1_restore_1 : List UInt8 := dkwX1_restore_1 ++ dktX1_restore_2
def dkwX1_restore_0 : List UInt8 := [42, 180, 1, 151, 184, 1, 107, 42, 180, 0, 28, 42, 180, 0, 35, 182, 0, 144, 42, 180, 0, 41]
abbrev dktX1_restore_0 : List UInt8 := dkwX1_restore_0 ++ dktX1_restore_1
theorem dksX1_restore_0 : cX1_restore.data.toList.drop 0 = dktX1_restore_0 := by decide +kernel
theorem dksX1_restore_1 : cX1_restore.data.toList.drop 22 = dktX1_restore_1 := dk_seg dksX1_restore_0 22 rfl rfl
theorem dksX1_restore_2 : cX1_restore.data.toList.drop 45 = dktX1_restore_2 := dk_seg dksX1_restore_1 23 rfl rfl
theorem dX1_restore_0 : decode cX1_restore 0 = .ok (.aload_n 0, 1) := dk_42 (dk_at dksX1_restore_0 0 rfl rfl)
theorem dX1_restore_1 : decode cX1_restore 1 = .ok (.getfield 407, 3) := dk_180 1 151 (dk_at dksX1_restore_0 1 rfl rfl)
theorem dX1_restore_4 : decode cX1_restore 4 = .ok (.invokestatic 363, 3) := dk_184 1 107 (dk_at dksX1_restore_0 4 rfl rfl)
theorem dX1_restore_7 : decode cX1_restore 7 = .ok (.aload_n 0, 1) := dk_42 (dk_at dksX1_restore_0 7 rfl rfl)
theorem dX1_restore_8 : decode cX1_restore 8 = .ok (.getfield 28, 3) := dk_180 0 28 (dk_at dksX1_restore_0 8 rfl rfl)
theorem dX1_restore_11 : decode cX1_restore 11 = .ok (.aload_n 0, 1) := dk_42 (dk_at dksX1_restore_0 11 rfl rfl)
theorem dX1_restore_12 : decode cX1_restore 12 = .ok (.getfield 35, 3) := dk_180 0 35 (dk_at dksX1_restore_0 12 rfl rfl)
theorem dX1_restore_15 : decode cX1_restore 15 = .ok (.invokevirtual 144, 3) := dk_182 0 144 (dk_at dksX1_restore_0 15 rfl rfl)
theorem dX1_restore_18 : decode cX1_restore 18 = .ok (.aload_n 0, 1) := dk_42 (dk_at dksX1_restore_0 18 rfl rfl)
theorem dX1_restore_19 : decode cX1_restore 19 = .ok (.getfield 41, 3) := dk_180 0 41 (dk_at dksX1_restore_0 19 rfl rfl)
theorem dX1_restore_22 : decode cX1_restore 22 = .ok (.invokevirtual 136, 3) := dk_182 0 136 (dk_at dksX1_restore_1 0 rfl rfl)
theorem dX1_restore_25 : decode cX1_restore 25 = .ok (.ifCond .ne 23, 3) := dk_154 0 23 (dk_at dksX1_restore_1 3 rfl rfl)
theorem dX1_restore_28 : decode cX1_restore 28 = .ok (.aload_n 0, 1) := dk_42 (dk_at dksX1_restore_1 6 rfl rfl)
theorem dX1_restore_29 : decode cX1_restore 29 = .ok (.getfield 45, 3) := dk_180 0 45 (dk_at dksX1_restore_1 7 rfl rfl)
theorem dX1_restore_32 : decode cX1_restore 32 = .ok (.aload_n 0, 1) := dk_42 (dk_at dksX1_restore_1 10 rfl rfl)
theorem dX1_restore_33 : decode cX1_restore 33 = .ok (.getfield 41, 3) := dk_180 0 41 (dk_at dksX1_restore_1 11 rfl rfl)
theorem dX1_restore_36 : decode cX1_restore 36 = .ok (.invokevirtual 404, 3) := dk_182 1 148 (dk_at dksX1_restore_1 14 rfl rfl)
theorem dX1_restore_39 : decode cX1_restore 39 = .ok (.checkcast 25, 3) := dk_192 0 25 (dk_at dksX1_restore_1 17 rfl rfl)
theorem dX1_restore_42 : decode cX1_restore 42 = .ok (.invokevirtual 92, 3) := dk_182 0 92 (dk_at dksX1_restore_1 20 rfl rfl)
theorem dX1_restore_45 : decode cX1_restore 45 = .ok (.goto (-27), 3) := dk_167 255 229 (dk_at dksX1_restore_2 0 rfl rfl)
theorem dX1_restore_48 : decode cX1_restore 48 = .ok (.aload_n 0, 1) := dk_42 (dk_at dksX1_restore_2 3 rfl rfl)
theorem dX1_restore_49 : decode cX1_restore 49 = .ok (.getfield 28, 3) := dk_180 0 28 (dk_at dksX1_restore_2 4 rfl rfl)
theorem dX1_restore_52 : decode cX1_restore 52 = .ok (.getfield 237, 3) := dk_180 0 237 (dk_at dksX1_restore_2 7 rfl rfl)
theorem dX1_restore_55 : decode cX1_restore 55 = .ok (.ireturn, 1) := dk_172 (dk_at dksX1_restore_2 10 rfl rfl)
theorem q76 : (Jvm.Cond.initialized "PloughWills") ∈ lw_all := lw_g (lw_at lw_m1 1 rfl) rfl
theorem q119 : (Jvm.Cond.instantiable "PloughWills" (15 : Nat)) ∈ lw_all := lw_g (lw_at lw_m1 44 rfl) rfl
theorem q121 : (Jvm.Cond.instanceMethod ({ cls := "PloughWills", name := "<init>", desc := "()V" } : Jvm.MethodName)) ∈ lw_all := lw_g (lw_at lw_m1 46 rfl) rfl
theorem q122 : (Jvm.Cond.code ({ cls := "PloughWills", name := "<init>", desc := "()V" } : Jvm.MethodName) prog_1_method_5_code (2 : Nat) (Option.none : Option Jvm.ClassFile.FieldType)) ∈ lw_all := lw_g (lw_at lw_m1 47 rfl) rfl
theorem q123 : (Jvm.Cond.methodLink "PloughWills" (20 : Nat) ({ cls := "java/lang/Object", name := "<init>", desc := "()V" } : Jvm.MethodName)) ∈ lw_all := lw_g (lw_at lw_m1 48 rfl) rfl
theorem q126 : (Jvm.Cond.classLink "PloughWills" (25 : Nat) "PloughWills$Will") ∈ lw_all := lw_g (lw_at lw_m1 51 rfl) rfl
theorem q128 : (Jvm.Cond.methodLinkNest "PloughWills" (27 : Nat) ({ cls := "PloughWills$Will", name := "<init>", desc := "()V" } : Jvm.MethodName) "PloughWills") ∈ lw_tbl := lw_at lw_m1 53 rfl
theorem q135 : (Jvm.Cond.static ({ cls := "PloughWills", name := "chests", desc := "()[[LPloughWills$Good;" } : Jvm.MethodName)) ∈ lw_all := lw_g (lw_at lw_m1 60 rfl) rfl
theorem q136 : (Jvm.Cond.code ({ cls := "PloughWills", name := "chests", desc := "()[[LPloughWills$Good;" } : Jvm.MethodName) prog_1_method_4_code (1 : Nat) (Option.some (Jvm.ClassFile.FieldType.array (Jvm.ClassFile.FieldType.array (Jvm.ClassFile.FieldType.object "PloughWills$Good"))))) ∈ lw_all := lw_g (lw_at lw_m1 61 rfl) rfl
theorem q137 : (Jvm.Cond.classLink "PloughWills" (18 : Nat) "[LPloughWills$Good;") ∈ lw_all := lw_g (lw_at lw_m1 62 rfl) rfl
theorem q139 : (Jvm.Cond.classLink "PloughWills" (7 : Nat) "PloughWills$LinearGood") ∈ lw_all := lw_g (lw_at lw_m1 64 rfl) rfl
theorem q141 : (Jvm.Cond.classLink "PloughWills" (10 : Nat) "PloughWills$LooseGood") ∈ lw_all := lw_g (lw_at lw_m1 66 rfl) rfl
theorem q143 : (Jvm.Cond.classLink "PloughWills" (13 : Nat) "PloughWills$CommonGood") ∈ lw_all := lw_g (lw_at lw_m1 68 rfl) rfl
theorem q147 : (Jvm.Cond.fieldLinkNest "PloughWills" (192 : Nat) "PloughWills$Will" "goods" "[LPloughWills$Good;" "PloughWills") ∈ lw_tbl := lw_at lw_m1 72 rfl
theorem q149 : (Jvm.Cond.fieldLinkNest "PloughWills" (213 : Nat) "PloughWills$Will" "chests" "[[LPloughWills$Good;" "PloughWills") ∈ lw_tbl := lw_at lw_m1 74 rfl
theorem q151 : (Jvm.Cond.fieldLinkNest "PloughWills" (224 : Nat) "PloughWills$Will" "rates" "[F" "PloughWills") ∈ lw_tbl := lw_at lw_m1 76 rfl
theorem q157 : (Jvm.Cond.fieldLinkNest "PloughWills" (250 : Nat) "PloughWills$Will" "sorts" "[I" "PloughWills") ∈ lw_tbl := lw_at lw_m1 82 rfl
theorem q160 : (Jvm.Cond.fieldLinkNest "PloughWills" (254 : Nat) "PloughWills$Will" "ones" "[I" "PloughWills") ∈ lw_tbl := lw_at lw_m1 85 rfl
theorem q163 : (Jvm.Cond.fieldLinkNest "PloughWills" (257 : Nat) "PloughWills$Will" "others" "[I" "PloughWills") ∈ lw_tbl := lw_at lw_m1 88 rfl
theorem q166 : (Jvm.Cond.fieldLinkNest "PloughWills" (382 : Nat) "PloughWills$Will" "many" "I" "PloughWills") ∈ lw_tbl := lw_at lw_m1 91 rfl
theorem q171 : (Jvm.Cond.fieldLinkNest "PloughWills" (237 : Nat) "PloughWills$Will" "size" "I" "PloughWills") ∈ lw_tbl := lw_at lw_m1 96 rfl
theorem q173 : (Jvm.Cond.fieldLinkNest "PloughWills" (151 : Nat) "PloughWills$Will" "changes" "I" "PloughWills") ∈ lw_tbl := lw_at lw_m1 98 rfl
theorem q197 : (Jvm.Cond.classLink "PloughWills" (38 : Nat) "java/util/ArrayDeque") ∈ lw_all := lw_g (lw_at lw_m1 122 rfl) rfl
theorem q199 : (Jvm.Cond.methodLink "PloughWills" (40 : Nat) ({ cls := "java/util/ArrayDeque", name := "<init>", desc := "()V" } : Jvm.MethodName)) ∈ lw_all := lw_g (lw_at lw_m1 124 rfl) rfl
theorem q218 : (Jvm.Cond.classLink "PloughWills" (48 : Nat) "PloughWills$Walk") ∈ lw_all := lw_g (lw_at lw_m1 143 rfl) rfl
theorem q220 : (Jvm.Cond.methodLink "PloughWills" (50 : Nat) ({ cls := "PloughWills$Walk", name := "<init>", desc := "()V" } : Jvm.MethodName)) ∈ lw_all := lw_g (lw_at lw_m1 145 rfl) rfl
theorem q260 : (Jvm.Cond.fieldLinkNest "PloughWills" (272 : Nat) "PloughWills$Walk" "reason" "I" "PloughWills") ∈ lw_tbl := lw_at lw_m1 185 rfl
theorem q262 : (Jvm.Cond.fieldLinkNest "PloughWills" (273 : Nat) "PloughWills$Walk" "place" "I" "PloughWills") ∈ lw_tbl := lw_at lw_m1 187 rfl
theorem q264 : (Jvm.Cond.fieldLinkNest "PloughWills" (276 : Nat) "PloughWills$Walk" "detail" "I" "PloughWills") ∈ lw_tbl := lw_at lw_m1 189 rfl
theorem q266 : (Jvm.Cond.fieldLinkNest "PloughWills" (293 : Nat) "PloughWills$Walk" "goodsAhead" "[I" "PloughWills") ∈ lw_tbl := lw_at lw_m1 191 rfl
theorem q268 : (Jvm.Cond.fieldLinkNest "PloughWills" (296 : Nat) "PloughWills$Walk" "ploughsAhead" "[I" "PloughWills") ∈ lw_tbl := lw_at lw_m1 193 rfl
theorem q295 : (Jvm.Cond.classLink "PloughWills" (55 : Nat) "PloughWills$Path") ∈ lw_all := lw_g (lw_at lw_m1 220 rfl) rfl
theorem q297 : (Jvm.Cond.methodLinkNest "PloughWills" (57 : Nat) ({ cls := "PloughWills$Path", name := "<init>", desc := "()V" } : Jvm.MethodName) "PloughWills") ∈ lw_tbl := lw_at lw_m1 222 rfl
theorem q303 : (Jvm.Cond.fieldLinkNest "PloughWills" (315 : Nat) "PloughWills$Path" "goesBy" "[Z" "PloughWills") ∈ lw_tbl := lw_at lw_m1 228 rfl
theorem q307 : (Jvm.Cond.fieldLinkNest "PloughWills" (306 : Nat) "PloughWills$Path" "clauses" "I" "PloughWills") ∈ lw_tbl := lw_at lw_m1 232 rfl
theorem q309 : (Jvm.Cond.fieldLinkNest "PloughWills" (309 : Nat) "PloughWills$Path" "choices" "I" "PloughWills") ∈ lw_tbl := lw_at lw_m1 234 rfl
theorem q322 : (Jvm.Cond.classLink "PloughWills" (62 : Nat) "PloughWills$Nesting") ∈ lw_all := lw_g (lw_at lw_m2 7 rfl) rfl
theorem q324 : (Jvm.Cond.methodLinkNest "PloughWills" (64 : Nat) ({ cls := "PloughWills$Nesting", name := "<init>", desc := "()V" } : Jvm.MethodName) "PloughWills") ∈ lw_tbl := lw_at lw_m2 9 rfl
theorem q329 : (Jvm.Cond.fieldLinkNest "PloughWills" (265 : Nat) "PloughWills$Nesting" "depths" "[I" "PloughWills") ∈ lw_tbl := lw_at lw_m2 14 rfl
theorem q332 : (Jvm.Cond.fieldLinkNest "PloughWills" (261 : Nat) "PloughWills$Nesting" "isRight" "Z" "PloughWills") ∈ lw_tbl := lw_at lw_m2 17 rfl
theorem q334 : (Jvm.Cond.fieldLinkNest "PloughWills" (389 : Nat) "PloughWills$Nesting" "deepest" "I" "PloughWills") ∈ lw_tbl := lw_at lw_m2 19 rfl
theorem q344 : (Jvm.Cond.classLink "PloughWills" (69 : Nat) "java/lang/StringBuilder") ∈ lw_all := lw_g (lw_at lw_m2 29 rfl) rfl
theorem q346 : (Jvm.Cond.methodLink "PloughWills" (71 : Nat) ({ cls := "java/lang/StringBuilder", name := "<init>", desc := "()V" } : Jvm.MethodName)) ∈ lw_all := lw_g (lw_at lw_m2 31 rfl) rfl
theorem q377 : (Jvm.Cond.classLink "PloughWills" (79 : Nat) "PloughWills$Reader") ∈ lw_all := lw_g (lw_at lw_m2 62 rfl) rfl
theorem q379 : (Jvm.Cond.methodLink "PloughWills" (81 : Nat) ({ cls := "PloughWills$Reader", name := "<init>", desc := "(Ljava/lang/StringBuilder;)V" } : Jvm.MethodName)) ∈ lw_all := lw_g (lw_at lw_m2 64 rfl) rfl
theorem q406 : (Jvm.Cond.methodLink "PloughWills" (92 : Nat) ({ cls := "java/util/ArrayDeque", name := "addLast", desc := "(Ljava/lang/Object;)V" } : Jvm.MethodName)) ∈ lw_all := lw_g (lw_at lw_m2 91 rfl) rfl
theorem q504 : (Jvm.Cond.selects "PloughWills" ({ cls := "java/lang/Object", name := "getClass", desc := "()Ljava/lang/Class;" } : Jvm.MethodName) ({ cls := "java/lang/Object", name := "getClass", desc := "()Ljava/lang/Class;" } : Jvm.MethodName)) ∈ lw_all := lw_g (lw_at lw_m2 189 rfl) rfl
theorem q542 : (Jvm.Cond.fieldLink "PloughWills" (28 : Nat) "PloughWills" "will" "LPloughWills$Will;") ∈ lw_all := lw_g (lw_at lw_m2 227 rfl) rfl
theorem q543 : (Jvm.Cond.fieldLink "PloughWills" (32 : Nat) "PloughWills" "tried" "LPloughWills$Will;") ∈ lw_all := lw_g (lw_at lw_m2 228 rfl) rfl
theorem q544 : (Jvm.Cond.fieldLink "PloughWills" (35 : Nat) "PloughWills" "saved" "LPloughWills$Will;") ∈ lw_all := lw_g (lw_at lw_m2 229 rfl) rfl
theorem q545 : (Jvm.Cond.fieldLink "PloughWills" (407 : Nat) "PloughWills" "hasSaved" "Z") ∈ lw_all := lw_g (lw_at lw_m2 230 rfl) rfl
theorem q546 : (Jvm.Cond.fieldLink "PloughWills" (41 : Nat) "PloughWills" "kept" "Ljava/util/ArrayDeque;") ∈ lw_all := lw_g (lw_at lw_m2 231 rfl) rfl
theorem q547 : (Jvm.Cond.fieldLink "PloughWills" (45 : Nat) "PloughWills" "spare" "Ljava/util/ArrayDeque;") ∈ lw_all := lw_g (lw_at lw_m2 232 rfl) rfl
theorem q548 : (Jvm.Cond.fieldLink "PloughWills" (51 : Nat) "PloughWills" "walk" "LPloughWills$Walk;") ∈ lw_all := lw_g (lw_at lw_m2 233 rfl) rfl
theorem q549 : (Jvm.Cond.fieldLink "PloughWills" (58 : Nat) "PloughWills" "path" "LPloughWills$Path;") ∈ lw_all := lw_g (lw_at lw_m2 234 rfl) rfl
theorem q550 : (Jvm.Cond.fieldLink "PloughWills" (65 : Nat) "PloughWills" "nesting" "LPloughWills$Nesting;") ∈ lw_all := lw_g (lw_at lw_m2 235 rfl) rfl
theorem q551 : (Jvm.Cond.fieldLink "PloughWills" (72 : Nat) "PloughWills" "buffer" "Ljava/lang/StringBuilder;") ∈ lw_all := lw_g (lw_at lw_m2 236 rfl) rfl
theorem q552 : (Jvm.Cond.fieldLink "PloughWills" (76 : Nat) "PloughWills" "line" "Ljava/lang/StringBuilder;") ∈ lw_all := lw_g (lw_at lw_m2 237 rfl) rfl
theorem q553 : (Jvm.Cond.fieldLink "PloughWills" (84 : Nat) "PloughWills" "reader" "LPloughWills$Reader;") ∈ lw_all := lw_g (lw_at lw_m2 238 rfl) rfl
theorem q554 : (Jvm.Cond.fieldLink "PloughWills" (88 : Nat) "PloughWills" "fault" "I") ∈ lw_all := lw_g (lw_at lw_m2 239 rfl) rfl
theorem q555 : (Jvm.Cond.fieldLink "PloughWills" (114 : Nat) "PloughWills" "refused" "I") ∈ lw_all := lw_g (lw_at lw_m3 0 rfl) rfl
theorem q556 : (Jvm.Cond.fieldLink "PloughWills" (120 : Nat) "PloughWills" "detail" "I") ∈ lw_all := lw_g (lw_at lw_m3 1 rfl) rfl
theorem q557 : (Jvm.Cond.laysFinal "PloughWills" "PloughWills" "will" "LPloughWills$Will;") ∈ lw_all := lw_g (lw_at lw_m3 2 rfl) rfl
theorem q558 : (Jvm.Cond.soleField "PloughWills" "will") ∈ lw_all := lw_g (lw_at lw_m3 3 rfl) rfl
theorem q559 : (Jvm.Cond.laysFinal "PloughWills" "PloughWills" "tried" "LPloughWills$Will;") ∈ lw_all := lw_g (lw_at lw_m3 4 rfl) rfl
theorem q560 : (Jvm.Cond.soleField "PloughWills" "tried") ∈ lw_all := lw_g (lw_at lw_m3 5 rfl) rfl
theorem q561 : (Jvm.Cond.laysFinal "PloughWills" "PloughWills" "saved" "LPloughWills$Will;") ∈ lw_all := lw_g (lw_at lw_m3 6 rfl) rfl
theorem q562 : (Jvm.Cond.soleField "PloughWills" "saved") ∈ lw_all := lw_g (lw_at lw_m3 7 rfl) rfl
theorem q563 : (Jvm.Cond.lays "PloughWills" "PloughWills" "hasSaved" "Z") ∈ lw_all := lw_g (lw_at lw_m3 8 rfl) rfl
theorem q564 : (Jvm.Cond.soleField "PloughWills" "hasSaved") ∈ lw_all := lw_g (lw_at lw_m3 9 rfl) rfl
theorem q565 : (Jvm.Cond.laysFinal "PloughWills" "PloughWills" "kept" "Ljava/util/ArrayDeque;") ∈ lw_all := lw_g (lw_at lw_m3 10 rfl) rfl
theorem q566 : (Jvm.Cond.soleField "PloughWills" "kept") ∈ lw_all := lw_g (lw_at lw_m3 11 rfl) rfl
theorem q567 : (Jvm.Cond.laysFinal "PloughWills" "PloughWills" "spare" "Ljava/util/ArrayDeque;") ∈ lw_all := lw_g (lw_at lw_m3 12 rfl) rfl
theorem q568 : (Jvm.Cond.soleField "PloughWills" "spare") ∈ lw_all := lw_g (lw_at lw_m3 13 rfl) rfl
theorem q569 : (Jvm.Cond.laysFinal "PloughWills" "PloughWills" "walk" "LPloughWills$Walk;") ∈ lw_all := lw_g (lw_at lw_m3 14 rfl) rfl
theorem q570 : (Jvm.Cond.soleField "PloughWills" "walk") ∈ lw_all := lw_g (lw_at lw_m3 15 rfl) rfl
theorem q571 : (Jvm.Cond.laysFinal "PloughWills" "PloughWills" "path" "LPloughWills$Path;") ∈ lw_all := lw_g (lw_at lw_m3 16 rfl) rfl
theorem q572 : (Jvm.Cond.soleField "PloughWills" "path") ∈ lw_all := lw_g (lw_at lw_m3 17 rfl) rfl
theorem q573 : (Jvm.Cond.laysFinal "PloughWills" "PloughWills" "nesting" "LPloughWills$Nesting;") ∈ lw_all := lw_g (lw_at lw_m3 18 rfl) rfl
theorem q574 : (Jvm.Cond.soleField "PloughWills" "nesting") ∈ lw_all := lw_g (lw_at lw_m3 19 rfl) rfl
theorem q575 : (Jvm.Cond.laysFinal "PloughWills" "PloughWills" "buffer" "Ljava/lang/StringBuilder;") ∈ lw_all := lw_g (lw_at lw_m3 20 rfl) rfl
theorem q576 : (Jvm.Cond.soleField "PloughWills" "buffer") ∈ lw_all := lw_g (lw_at lw_m3 21 rfl) rfl
theorem q577 : (Jvm.Cond.laysFinal "PloughWills" "PloughWills" "line" "Ljava/lang/StringBuilder;") ∈ lw_all := lw_g (lw_at lw_m3 22 rfl) rfl
theorem q578 : (Jvm.Cond.soleField "PloughWills" "line") ∈ lw_all := lw_g (lw_at lw_m3 23 rfl) rfl
theorem q579 : (Jvm.Cond.laysFinal "PloughWills" "PloughWills" "reader" "LPloughWills$Reader;") ∈ lw_all := lw_g (lw_at lw_m3 24 rfl) rfl
theorem q580 : (Jvm.Cond.soleField "PloughWills" "reader") ∈ lw_all := lw_g (lw_at lw_m3 25 rfl) rfl
theorem q581 : (Jvm.Cond.lays "PloughWills" "PloughWills" "fault" "I") ∈ lw_all := lw_g (lw_at lw_m3 26 rfl) rfl
theorem q582 : (Jvm.Cond.soleField "PloughWills" "fault") ∈ lw_all := lw_g (lw_at lw_m3 27 rfl) rfl
theorem q583 : (Jvm.Cond.lays "PloughWills" "PloughWills" "refused" "I") ∈ lw_all := lw_g (lw_at lw_m3 28 rfl) rfl
theorem q584 : (Jvm.Cond.soleField "PloughWills" "refused") ∈ lw_all := lw_g (lw_at lw_m3 29 rfl) rfl
theorem q585 : (Jvm.Cond.lays "PloughWills" "PloughWills" "detail" "I") ∈ lw_all := lw_g (lw_at lw_m3 30 rfl) rfl
theorem q586 : (Jvm.Cond.soleField "PloughWills" "detail") ∈ lw_all := lw_g (lw_at lw_m3 31 rfl) rfl
theorem q587 : (Jvm.Cond.superclass "PloughWills" "java/lang/Object") ∈ lw_all := lw_g (lw_at lw_m3 32 rfl) rfl
theorem q589 : (Jvm.Cond.instanceMethod ({ cls := "PloughWills", name := "isSound", desc := "(Z)Z" } : Jvm.MethodName)) ∈ lw_all := lw_g (lw_at lw_m3 34 rfl) rfl
theorem q590 : (Jvm.Cond.selects "PloughWills" ({ cls := "PloughWills", name := "isSound", desc := "(Z)Z" } : Jvm.MethodName) ({ cls := "PloughWills", name := "isSound", desc := "(Z)Z" } : Jvm.MethodName)) ∈ lw_all := lw_g (lw_at lw_m3 35 rfl) rfl
theorem q591 : (Jvm.Cond.code ({ cls := "PloughWills", name := "isSound", desc := "(Z)Z" } : Jvm.MethodName) prog_1_method_34_code (2 : Nat) (Option.some Jvm.ClassFile.FieldType.boolean)) ∈ lw_all := lw_g (lw_at lw_m3 36 rfl) rfl
theorem q592 : (Jvm.Cond.methodLink "PloughWills" (290 : Nat) ({ cls := "PloughWills", name := "areRight", desc := "()Z" } : Jvm.MethodName)) ∈ lw_all := lw_g (lw_at lw_m3 37 rfl) rfl
theorem q593 : (Jvm.Cond.privateMethod ({ cls := "PloughWills", name := "areRight", desc := "()Z" } : Jvm.MethodName)) ∈ lw_tbl := lw_at lw_m3 38 rfl
theorem q594 : (Jvm.Cond.instanceMethod ({ cls := "PloughWills", name := "areRight", desc := "()Z" } : Jvm.MethodName)) ∈ lw_all := lw_g (lw_at lw_m3 39 rfl) rfl
theorem q595 : (Jvm.Cond.code ({ cls := "PloughWills", name := "areRight", desc := "()Z" } : Jvm.MethodName) prog_1_method_33_code (4 : Nat) (Option.some Jvm.ClassFile.FieldType.boolean)) ∈ lw_all := lw_g (lw_at lw_m3 40 rfl) rfl
theorem q596 : (Jvm.Cond.methodLink "PloughWills" (277 : Nat) ({ cls := "PloughWills", name := "isNested", desc := "()Z" } : Jvm.MethodName)) ∈ lw_all := lw_g (lw_at lw_m3 41 rfl) rfl
theorem q597 : (Jvm.Cond.privateMethod ({ cls := "PloughWills", name := "isNested", desc := "()Z" } : Jvm.MethodName)) ∈ lw_tbl := lw_at lw_m3 42 rfl
theorem q598 : (Jvm.Cond.instanceMethod ({ cls := "PloughWills", name := "isNested", desc := "()Z" } : Jvm.MethodName)) ∈ lw_all := lw_g (lw_at lw_m3 43 rfl) rfl
theorem q599 : (Jvm.Cond.code ({ cls := "PloughWills", name := "isNested", desc := "()Z" } : Jvm.MethodName) prog_1_method_32_code (1 : Nat) (Option.some Jvm.ClassFile.FieldType.boolean)) ∈ lw_all := lw_g (lw_at lw_m3 44 rfl) rfl
theorem q600 : (Jvm.Cond.methodLink "PloughWills" (260 : Nat) ({ cls := "PloughWills$Nesting", name := "take", desc := "(LPloughWills$Will;)V" } : Jvm.MethodName)) ∈ lw_all := lw_g (lw_at lw_m3 45 rfl) rfl
theorem q607 : (Jvm.Cond.methodLink "PloughWills" (280 : Nat) ({ cls := "PloughWills$Path", name := "many", desc := "(LPloughWills$Will;II)I" } : Jvm.MethodName)) ∈ lw_all := lw_g (lw_at lw_m3 52 rfl) rfl
theorem q615 : (Jvm.Cond.methodLink "PloughWills" (284 : Nat) ({ cls := "PloughWills$Path", name := "take", desc := "(LPloughWills$Will;I)V" } : Jvm.MethodName)) ∈ lw_all := lw_g (lw_at lw_m3 60 rfl) rfl
theorem q631 : (Jvm.Cond.methodLink "PloughWills" (286 : Nat) ({ cls := "PloughWills$Walk", name := "along", desc := "(LPloughWills$Will;LPloughWills$Path;)V" } : Jvm.MethodName)) ∈ lw_all := lw_g (lw_at lw_m3 76 rfl) rfl
theorem q692 : (Jvm.Cond.methodLink "PloughWills" (268 : Nat) ({ cls := "PloughWills$Walk", name := "through", desc := "(LPloughWills$Will;I)V" } : Jvm.MethodName)) ∈ lw_all := lw_g (lw_at lw_m3 137 rfl) rfl
theorem q708 : (Jvm.Cond.instanceMethod ({ cls := "PloughWills", name := "paths", desc := "()I" } : Jvm.MethodName)) ∈ lw_all := lw_g (lw_at lw_m3 153 rfl) rfl
theorem q709 : (Jvm.Cond.selects "PloughWills" ({ cls := "PloughWills", name := "paths", desc := "()I" } : Jvm.MethodName) ({ cls := "PloughWills", name := "paths", desc := "()I" } : Jvm.MethodName)) ∈ lw_all := lw_g (lw_at lw_m3 154 rfl) rfl
theorem q710 : (Jvm.Cond.code ({ cls := "PloughWills", name := "paths", desc := "()I" } : Jvm.MethodName) prog_1_method_37_code (1 : Nat) (Option.some Jvm.ClassFile.FieldType.int)) ∈ lw_all := lw_g (lw_at lw_m3 155 rfl) rfl
theorem q712 : (Jvm.Cond.instanceMethod ({ cls := "PloughWills", name := "line", desc := "()I" } : Jvm.MethodName)) ∈ lw_all := lw_g (lw_at lw_m3 157 rfl) rfl
theorem q713 : (Jvm.Cond.selects "PloughWills" ({ cls := "PloughWills", name := "line", desc := "()I" } : Jvm.MethodName) ({ cls := "PloughWills", name := "line", desc := "()I" } : Jvm.MethodName)) ∈ lw_all := lw_g (lw_at lw_m3 158 rfl) rfl
theorem q714 : (Jvm.Cond.code ({ cls := "PloughWills", name := "line", desc := "()I" } : Jvm.MethodName) prog_1_method_46_code (1 : Nat) (Option.some Jvm.ClassFile.FieldType.int)) ∈ lw_all := lw_g (lw_at lw_m3 159 rfl) rfl
theorem q715 : (Jvm.Cond.methodLink "PloughWills" (350 : Nat) ({ cls := "java/lang/StringBuilder", name := "setLength", desc := "(I)V" } : Jvm.MethodName)) ∈ lw_all := lw_g (lw_at lw_m3 160 rfl) rfl
theorem q996 : (Jvm.Cond.methodLink "PloughWills" (353 : Nat) ({ cls := "PloughWills$Will", name := "writes", desc := "(Ljava/lang/StringBuilder;)V" } : Jvm.MethodName)) ∈ lw_all := lw_g (lw_at lw_m4 201 rfl) rfl
theorem q1039 : (Jvm.Cond.static ({ cls := "PloughWills", name := "in", desc := "(III)Z" } : Jvm.MethodName)) ∈ lw_all := lw_g (lw_at lw_m5 4 rfl) rfl
theorem q1040 : (Jvm.Cond.code ({ cls := "PloughWills", name := "in", desc := "(III)Z" } : Jvm.MethodName) prog_1_method_1_code (3 : Nat) (Option.some Jvm.ClassFile.FieldType.boolean)) ∈ lw_all := lw_g (lw_at lw_m5 5 rfl) rfl
theorem q1042 : (Jvm.Cond.methodLink "PloughWills" (356 : Nat) ({ cls := "java/lang/StringBuilder", name := "length", desc := "()I" } : Jvm.MethodName)) ∈ lw_all := lw_g (lw_at lw_m5 7 rfl) rfl
theorem q1044 : (Jvm.Cond.instanceMethod ({ cls := "PloughWills", name := "errorPosition", desc := "()I" } : Jvm.MethodName)) ∈ lw_all := lw_g (lw_at lw_m5 9 rfl) rfl
theorem q1045 : (Jvm.Cond.selects "PloughWills" ({ cls := "PloughWills", name := "errorPosition", desc := "()I" } : Jvm.MethodName) ({ cls := "PloughWills", name := "errorPosition", desc := "()I" } : Jvm.MethodName)) ∈ lw_all := lw_g (lw_at lw_m5 10 rfl) rfl
theorem q1046 : (Jvm.Cond.code ({ cls := "PloughWills", name := "errorPosition", desc := "()I" } : Jvm.MethodName) prog_1_method_50_code (1 : Nat) (Option.some Jvm.ClassFile.FieldType.int)) ∈ lw_all := lw_g (lw_at lw_m5 11 rfl) rfl
theorem q1048 : (Jvm.Cond.instanceMethod ({ cls := "PloughWills", name := "isWell", desc := "()Z" } : Jvm.MethodName)) ∈ lw_all := lw_g (lw_at lw_m5 13 rfl) rfl
theorem q1049 : (Jvm.Cond.selects "PloughWills" ({ cls := "PloughWills", name := "isWell", desc := "()Z" } : Jvm.MethodName) ({ cls := "PloughWills", name := "isWell", desc := "()Z" } : Jvm.MethodName)) ∈ lw_all := lw_g (lw_at lw_m5 14 rfl) rfl
theorem q1050 : (Jvm.Cond.code ({ cls := "PloughWills", name := "isWell", desc := "()Z" } : Jvm.MethodName) prog_1_method_54_code (3 : Nat) (Option.some Jvm.ClassFile.FieldType.boolean)) ∈ lw_all := lw_g (lw_at lw_m5 15 rfl) rfl
theorem q1051 : (Jvm.Cond.methodLink "PloughWills" (299 : Nat) ({ cls := "PloughWills", name := "paths", desc := "()I" } : Jvm.MethodName)) ∈ lw_all := lw_g (lw_at lw_m5 16 rfl) rfl
theorem q1052 : (Jvm.Cond.methodLink "PloughWills" (394 : Nat) ({ cls := "PloughWills", name := "isSound", desc := "(Z)Z" } : Jvm.MethodName)) ∈ lw_all := lw_g (lw_at lw_m5 17 rfl) rfl
theorem q1053 : (Jvm.Cond.methodLink "PloughWills" (398 : Nat) ({ cls := "PloughWills$Will", name := "areInTheirChests", desc := "()Z" } : Jvm.MethodName)) ∈ lw_all := lw_g (lw_at lw_m5 18 rfl) rfl
theorem q1057 : (Jvm.Cond.methodLink "PloughWills" (323 : Nat) ({ cls := "PloughWills", name := "worthFrom", desc := "(IIZ)I" } : Jvm.MethodName)) ∈ lw_all := lw_g (lw_at lw_m5 22 rfl) rfl
theorem q1058 : (Jvm.Cond.privateMethod ({ cls := "PloughWills", name := "worthFrom", desc := "(IIZ)I" } : Jvm.MethodName)) ∈ lw_tbl := lw_at lw_m5 23 rfl
theorem q1059 : (Jvm.Cond.instanceMethod ({ cls := "PloughWills", name := "worthFrom", desc := "(IIZ)I" } : Jvm.MethodName)) ∈ lw_all := lw_g (lw_at lw_m5 24 rfl) rfl
theorem q1060 : (Jvm.Cond.code ({ cls := "PloughWills", name := "worthFrom", desc := "(IIZ)I" } : Jvm.MethodName) prog_1_method_41_code (10 : Nat) (Option.some Jvm.ClassFile.FieldType.int)) ∈ lw_all := lw_g (lw_at lw_m5 25 rfl) rfl
theorem q1061 : (Jvm.Cond.methodLink "PloughWills" (319 : Nat) ({ cls := "PloughWills$Will", name := "behind", desc := "(III)I" } : Jvm.MethodName)) ∈ lw_all := lw_g (lw_at lw_m5 26 rfl) rfl
theorem q1062 : (Jvm.Cond.methodLink "PloughWills" (327 : Nat) ({ cls := "java/lang/Math", name := "max", desc := "(II)I" } : Jvm.MethodName)) ∈ lw_all := lw_g (lw_at lw_m5 27 rfl) rfl
theorem q1063 : (Jvm.Cond.methodLink "PloughWills" (332 : Nat) ({ cls := "java/lang/Math", name := "min", desc := "(II)I" } : Jvm.MethodName)) ∈ lw_all := lw_g (lw_at lw_m5 28 rfl) rfl
theorem q1064 : (Jvm.Cond.methodLink "PloughWills" (335 : Nat) ({ cls := "PloughWills$Will", name := "worthOf", desc := "(I)I" } : Jvm.MethodName)) ∈ lw_all := lw_g (lw_at lw_m5 29 rfl) rfl
theorem q1068 : (Jvm.Cond.methodLink "PloughWills" (338 : Nat) ({ cls := "PloughWills", name := "worthAgain", desc := "(IZ)I" } : Jvm.MethodName)) ∈ lw_all := lw_g (lw_at lw_m5 33 rfl) rfl
theorem q1069 : (Jvm.Cond.privateMethod ({ cls := "PloughWills", name := "worthAgain", desc := "(IZ)I" } : Jvm.MethodName)) ∈ lw_tbl := lw_at lw_m5 34 rfl
theorem q1070 : (Jvm.Cond.instanceMethod ({ cls := "PloughWills", name := "worthAgain", desc := "(IZ)I" } : Jvm.MethodName)) ∈ lw_all := lw_g (lw_at lw_m5 35 rfl) rfl
theorem q1071 : (Jvm.Cond.code ({ cls := "PloughWills", name := "worthAgain", desc := "(IZ)I" } : Jvm.MethodName) prog_1_method_42_code (6 : Nat) (Option.some Jvm.ClassFile.FieldType.int)) ∈ lw_all := lw_g (lw_at lw_m5 36 rfl) rfl
theorem q1072 : (Jvm.Cond.methodLink "PloughWills" (312 : Nat) ({ cls := "PloughWills$Path", name := "worth", desc := "(LPloughWills$Will;)I" } : Jvm.MethodName)) ∈ lw_all := lw_g (lw_at lw_m5 37 rfl) rfl
theorem q1078 : (Jvm.Cond.instanceMethod ({ cls := "PloughWills", name := "save", desc := "()I" } : Jvm.MethodName)) ∈ lw_all := lw_g (lw_at lw_m5 43 rfl) rfl
theorem q1079 : (Jvm.Cond.selects "PloughWills" ({ cls := "PloughWills", name := "save", desc := "()I" } : Jvm.MethodName) ({ cls := "PloughWills", name := "save", desc := "()I" } : Jvm.MethodName)) ∈ lw_all := lw_g (lw_at lw_m5 44 rfl) rfl
theorem q1080 : (Jvm.Cond.code ({ cls := "PloughWills", name := "save", desc := "()I" } : Jvm.MethodName) prog_1_method_57_code (1 : Nat) (Option.some Jvm.ClassFile.FieldType.int)) ∈ lw_all := lw_g (lw_at lw_m5 45 rfl) rfl
theorem q1081 : (Jvm.Cond.methodLink "PloughWills" (144 : Nat) ({ cls := "PloughWills$Will", name := "take", desc := "(LPloughWills$Will;)V" } : Jvm.MethodName)) ∈ lw_all := lw_g (lw_at lw_m5 46 rfl) rfl
theorem q1092 : (Jvm.Cond.instanceMethod ({ cls := "PloughWills", name := "good", desc := "(II)I" } : Jvm.MethodName)) ∈ lw_all := lw_g (lw_at lw_m5 57 rfl) rfl
theorem q1093 : (Jvm.Cond.selects "PloughWills" ({ cls := "PloughWills", name := "good", desc := "(II)I" } : Jvm.MethodName) ({ cls := "PloughWills", name := "good", desc := "(II)I" } : Jvm.MethodName)) ∈ lw_all := lw_g (lw_at lw_m5 58 rfl) rfl
theorem q1094 : (Jvm.Cond.codeWith ({ cls := "PloughWills", name := "good", desc := "(II)I" } : Jvm.MethodName) prog_1_method_18_code (4 : Nat) (Option.some Jvm.ClassFile.FieldType.int) [((25 : Nat), (38 : Nat), (39 : Nat), (1 : Nat))]) ∈ lw_all := lw_g (lw_at lw_m5 59 rfl) rfl
theorem q1095 : (Jvm.Cond.classLink "PloughWills" (1 : Nat) "PloughWills$Refused") ∈ lw_all := lw_g (lw_at lw_m5 60 rfl) rfl
theorem q1096 : (Jvm.Cond.methodLink "PloughWills" (154 : Nat) ({ cls := "PloughWills", name := "isKind", desc := "(I)Z" } : Jvm.MethodName)) ∈ lw_all := lw_g (lw_at lw_m5 61 rfl) rfl
theorem q1097 : (Jvm.Cond.static ({ cls := "PloughWills", name := "isKind", desc := "(I)Z" } : Jvm.MethodName)) ∈ lw_all := lw_g (lw_at lw_m5 62 rfl) rfl
theorem q1098 : (Jvm.Cond.code ({ cls := "PloughWills", name := "isKind", desc := "(I)Z" } : Jvm.MethodName) prog_1_method_12_code (1 : Nat) (Option.some Jvm.ClassFile.FieldType.boolean)) ∈ lw_all := lw_g (lw_at lw_m5 63 rfl) rfl
theorem q1099 : (Jvm.Cond.methodLink "PloughWills" (124 : Nat) ({ cls := "PloughWills", name := "in", desc := "(III)Z" } : Jvm.MethodName)) ∈ lw_all := lw_g (lw_at lw_m5 64 rfl) rfl
theorem q1100 : (Jvm.Cond.methodLink "PloughWills" (157 : Nat) ({ cls := "PloughWills", name := "check", desc := "(Z)V" } : Jvm.MethodName)) ∈ lw_all := lw_g (lw_at lw_m5 65 rfl) rfl
theorem q1101 : (Jvm.Cond.static ({ cls := "PloughWills", name := "check", desc := "(Z)V" } : Jvm.MethodName)) ∈ lw_all := lw_g (lw_at lw_m5 66 rfl) rfl
theorem q1102 : (Jvm.Cond.code ({ cls := "PloughWills", name := "check", desc := "(Z)V" } : Jvm.MethodName) prog_1_method_6_code (1 : Nat) (Option.none : Option Jvm.ClassFile.FieldType)) ∈ lw_all := lw_g (lw_at lw_m5 67 rfl) rfl
theorem q1103 : (Jvm.Cond.classLink "PloughWills" (96 : Nat) "java/lang/IllegalArgumentException") ∈ lw_all := lw_g (lw_at lw_m5 68 rfl) rfl
theorem q1104 : (Jvm.Cond.methodLink "PloughWills" (98 : Nat) ({ cls := "java/lang/IllegalArgumentException", name := "<init>", desc := "()V" } : Jvm.MethodName)) ∈ lw_all := lw_g (lw_at lw_m5 69 rfl) rfl
theorem q1114 : (Jvm.Cond.methodLink "PloughWills" (160 : Nat) ({ cls := "PloughWills", name := "tryOn", desc := "()LPloughWills$Will;" } : Jvm.MethodName)) ∈ lw_all := lw_g (lw_at lw_m5 79 rfl) rfl
theorem q1115 : (Jvm.Cond.privateMethod ({ cls := "PloughWills", name := "tryOn", desc := "()LPloughWills$Will;" } : Jvm.MethodName)) ∈ lw_tbl := lw_at lw_m5 80 rfl
theorem q1116 : (Jvm.Cond.instanceMethod ({ cls := "PloughWills", name := "tryOn", desc := "()LPloughWills$Will;" } : Jvm.MethodName)) ∈ lw_all := lw_g (lw_at lw_m5 81 rfl) rfl
theorem q1117 : (Jvm.Cond.code ({ cls := "PloughWills", name := "tryOn", desc := "()LPloughWills$Will;" } : Jvm.MethodName) prog_1_method_16_code (1 : Nat) (Option.some (Jvm.ClassFile.FieldType.object "PloughWills$Will"))) ∈ lw_all := lw_g (lw_at lw_m5 82 rfl) rfl
theorem q1118 : (Jvm.Cond.methodLink "PloughWills" (164 : Nat) ({ cls := "PloughWills$Will", name := "good", desc := "(II)I" } : Jvm.MethodName)) ∈ lw_all := lw_g (lw_at lw_m5 83 rfl) rfl
theorem q1123 : (Jvm.Cond.static ({ cls := "PloughWills", name := "refuse", desc := "(ZII)V" } : Jvm.MethodName)) ∈ lw_all := lw_g (lw_at lw_m5 88 rfl) rfl
theorem q1124 : (Jvm.Cond.code ({ cls := "PloughWills", name := "refuse", desc := "(ZII)V" } : Jvm.MethodName) prog_1_method_2_code (3 : Nat) (Option.none : Option Jvm.ClassFile.FieldType)) ∈ lw_all := lw_g (lw_at lw_m5 89 rfl) rfl
theorem q1133 : (Jvm.Cond.methodLink "PloughWills" (3 : Nat) ({ cls := "PloughWills$Refused", name := "<init>", desc := "(II)V" } : Jvm.MethodName)) ∈ lw_all := lw_g (lw_at lw_m5 98 rfl) rfl
theorem q1138 : (Jvm.Cond.fieldLinkNest "PloughWills" (111 : Nat) "PloughWills$Refused" "reason" "I" "PloughWills") ∈ lw_tbl := lw_at lw_m5 103 rfl
theorem q1140 : (Jvm.Cond.fieldLinkNest "PloughWills" (117 : Nat) "PloughWills$Refused" "detail" "I" "PloughWills") ∈ lw_tbl := lw_at lw_m5 105 rfl
theorem q1148 : (Jvm.Cond.static ({ cls := "PloughWills", name := "goodOf", desc := "(III)LPloughWills$Good;" } : Jvm.MethodName)) ∈ lw_all := lw_g (lw_at lw_m5 113 rfl) rfl
theorem q1149 : (Jvm.Cond.code ({ cls := "PloughWills", name := "goodOf", desc := "(III)LPloughWills$Good;" } : Jvm.MethodName) prog_1_method_3_code (3 : Nat) (Option.some (Jvm.ClassFile.FieldType.object "PloughWills$Good"))) ∈ lw_all := lw_g (lw_at lw_m5 114 rfl) rfl
theorem q1151 : (Jvm.Cond.methodLink "PloughWills" (9 : Nat) ({ cls := "PloughWills$LinearGood", name := "<init>", desc := "(II)V" } : Jvm.MethodName)) ∈ lw_all := lw_g (lw_at lw_m5 116 rfl) rfl
theorem q1159 : (Jvm.Cond.fieldLinkNest "PloughWills" (217 : Nat) "PloughWills$Good" "number" "I" "PloughWills") ∈ lw_tbl := lw_at lw_m5 124 rfl
theorem q1164 : (Jvm.Cond.fieldLinkNest "PloughWills" (195 : Nat) "PloughWills$Good" "worth" "I" "PloughWills") ∈ lw_tbl := lw_at lw_m5 129 rfl
theorem q1173 : (Jvm.Cond.methodLink "PloughWills" (12 : Nat) ({ cls := "PloughWills$LooseGood", name := "<init>", desc := "(II)V" } : Jvm.MethodName)) ∈ lw_all := lw_g (lw_at lw_m5 138 rfl) rfl
theorem q1182 : (Jvm.Cond.methodLink "PloughWills" (15 : Nat) ({ cls := "PloughWills$CommonGood", name := "<init>", desc := "(II)V" } : Jvm.MethodName)) ∈ lw_all := lw_g (lw_at lw_m5 147 rfl) rfl
theorem q1190 : (Jvm.Cond.methodLink "PloughWills" (168 : Nat) ({ cls := "PloughWills", name := "becomes", desc := "(I)I" } : Jvm.MethodName)) ∈ lw_all := lw_g (lw_at lw_m5 155 rfl) rfl
theorem q1191 : (Jvm.Cond.privateMethod ({ cls := "PloughWills", name := "becomes", desc := "(I)I" } : Jvm.MethodName)) ∈ lw_tbl := lw_at lw_m5 156 rfl
theorem q1192 : (Jvm.Cond.instanceMethod ({ cls := "PloughWills", name := "becomes", desc := "(I)I" } : Jvm.MethodName)) ∈ lw_all := lw_g (lw_at lw_m5 157 rfl) rfl
theorem q1193 : (Jvm.Cond.code ({ cls := "PloughWills", name := "becomes", desc := "(I)I" } : Jvm.MethodName) prog_1_method_17_code (2 : Nat) (Option.some Jvm.ClassFile.FieldType.int)) ∈ lw_all := lw_g (lw_at lw_m5 158 rfl) rfl
theorem q1194 : (Jvm.Cond.methodLink "PloughWills" (148 : Nat) ({ cls := "PloughWills", name := "keep", desc := "()V" } : Jvm.MethodName)) ∈ lw_all := lw_g (lw_at lw_m5 159 rfl) rfl
theorem q1195 : (Jvm.Cond.privateMethod ({ cls := "PloughWills", name := "keep", desc := "()V" } : Jvm.MethodName)) ∈ lw_tbl := lw_at lw_m5 160 rfl
theorem q1196 : (Jvm.Cond.instanceMethod ({ cls := "PloughWills", name := "keep", desc := "()V" } : Jvm.MethodName)) ∈ lw_all := lw_g (lw_at lw_m5 161 rfl) rfl
theorem q1197 : (Jvm.Cond.code ({ cls := "PloughWills", name := "keep", desc := "()V" } : Jvm.MethodName) prog_1_method_15_code (2 : Nat) (Option.none : Option Jvm.ClassFile.FieldType)) ∈ lw_all := lw_g (lw_at lw_m5 162 rfl) rfl
theorem q1198 : (Jvm.Cond.methodLink "PloughWills" (136 : Nat) ({ cls := "java/util/ArrayDeque", name := "isEmpty", desc := "()Z" } : Jvm.MethodName)) ∈ lw_all := lw_g (lw_at lw_m5 163 rfl) rfl
theorem q1202 : (Jvm.Cond.methodLink "PloughWills" (140 : Nat) ({ cls := "java/util/ArrayDeque", name := "pollFirst", desc := "()Ljava/lang/Object;" } : Jvm.MethodName)) ∈ lw_all := lw_g (lw_at lw_m5 167 rfl) rfl
theorem q1209 : (Jvm.Cond.methodLink "PloughWills" (172 : Nat) ({ cls := "PloughWills", name := "because", desc := "(LPloughWills$Refused;)Ljava/lang/UnsupportedOperationException;" } : Jvm.MethodName)) ∈ lw_all := lw_g (lw_at lw_m5 174 rfl) rfl
theorem q1210 : (Jvm.Cond.privateMethod ({ cls := "PloughWills", name := "because", desc := "(LPloughWills$Refused;)Ljava/lang/UnsupportedOperationException;" } : Jvm.MethodName)) ∈ lw_tbl := lw_at lw_m5 175 rfl
theorem q1211 : (Jvm.Cond.instanceMethod ({ cls := "PloughWills", name := "because", desc := "(LPloughWills$Refused;)Ljava/lang/UnsupportedOperationException;" } : Jvm.MethodName)) ∈ lw_all := lw_g (lw_at lw_m5 176 rfl) rfl
theorem q1212 : (Jvm.Cond.code ({ cls := "PloughWills", name := "because", desc := "(LPloughWills$Refused;)Ljava/lang/UnsupportedOperationException;" } : Jvm.MethodName) prog_1_method_11_code (2 : Nat) (Option.some (Jvm.ClassFile.FieldType.object "java/lang/UnsupportedOperationException"))) ∈ lw_all := lw_g (lw_at lw_m5 177 rfl) rfl
theorem q1213 : (Jvm.Cond.classLink "PloughWills" (121 : Nat) "java/lang/UnsupportedOperationException") ∈ lw_all := lw_g (lw_at lw_m5 178 rfl) rfl
theorem q1222 : (Jvm.Cond.methodLink "PloughWills" (123 : Nat) ({ cls := "java/lang/UnsupportedOperationException", name := "<init>", desc := "()V" } : Jvm.MethodName)) ∈ lw_all := lw_g (lw_at lw_m5 187 rfl) rfl
theorem q1235 : (Jvm.Cond.instanceMethod ({ cls := "PloughWills", name := "put", desc := "(II)I" } : Jvm.MethodName)) ∈ lw_all := lw_g (lw_at lw_m5 200 rfl) rfl
theorem q1236 : (Jvm.Cond.selects "PloughWills" ({ cls := "PloughWills", name := "put", desc := "(II)I" } : Jvm.MethodName) ({ cls := "PloughWills", name := "put", desc := "(II)I" } : Jvm.MethodName)) ∈ lw_all := lw_g (lw_at lw_m5 201 rfl) rfl
theorem q1237 : (Jvm.Cond.codeWith ({ cls := "PloughWills", name := "put", desc := "(II)I" } : Jvm.MethodName) prog_1_method_19_code (4 : Nat) (Option.some Jvm.ClassFile.FieldType.int) [((12 : Nat), (25 : Nat), (26 : Nat), (1 : Nat))]) ∈ lw_all := lw_g (lw_at lw_m5 202 rfl) rfl
theorem q1238 : (Jvm.Cond.methodLink "PloughWills" (176 : Nat) ({ cls := "PloughWills", name := "checkGood", desc := "(I)V" } : Jvm.MethodName)) ∈ lw_all := lw_g (lw_at lw_m5 203 rfl) rfl
theorem q1239 : (Jvm.Cond.privateMethod ({ cls := "PloughWills", name := "checkGood", desc := "(I)V" } : Jvm.MethodName)) ∈ lw_tbl := lw_at lw_m5 204 rfl
theorem q1240 : (Jvm.Cond.instanceMethod ({ cls := "PloughWills", name := "checkGood", desc := "(I)V" } : Jvm.MethodName)) ∈ lw_all := lw_g (lw_at lw_m5 205 rfl) rfl
theorem q1241 : (Jvm.Cond.code ({ cls := "PloughWills", name := "checkGood", desc := "(I)V" } : Jvm.MethodName) prog_1_method_14_code (2 : Nat) (Option.none : Option Jvm.ClassFile.FieldType)) ∈ lw_all := lw_g (lw_at lw_m5 206 rfl) rfl
theorem q1242 : (Jvm.Cond.methodLink "PloughWills" (128 : Nat) ({ cls := "PloughWills$Will", name := "isGood", desc := "(I)Z" } : Jvm.MethodName)) ∈ lw_all := lw_g (lw_at lw_m5 207 rfl) rfl
theorem q1246 : (Jvm.Cond.methodLink "PloughWills" (132 : Nat) ({ cls := "PloughWills", name := "checkIndex", desc := "(Z)V" } : Jvm.MethodName)) ∈ lw_all := lw_g (lw_at lw_m5 211 rfl) rfl
theorem q1247 : (Jvm.Cond.static ({ cls := "PloughWills", name := "checkIndex", desc := "(Z)V" } : Jvm.MethodName)) ∈ lw_all := lw_g (lw_at lw_m5 212 rfl) rfl
theorem q1248 : (Jvm.Cond.code ({ cls := "PloughWills", name := "checkIndex", desc := "(Z)V" } : Jvm.MethodName) prog_1_method_9_code (1 : Nat) (Option.none : Option Jvm.ClassFile.FieldType)) ∈ lw_all := lw_g (lw_at lw_m5 213 rfl) rfl
theorem q1249 : (Jvm.Cond.classLink "PloughWills" (105 : Nat) "java/lang/IndexOutOfBoundsException") ∈ lw_all := lw_g (lw_at lw_m5 214 rfl) rfl
theorem q1258 : (Jvm.Cond.methodLink "PloughWills" (107 : Nat) ({ cls := "java/lang/IndexOutOfBoundsException", name := "<init>", desc := "()V" } : Jvm.MethodName)) ∈ lw_all := lw_g (lw_at lw_m5 223 rfl) rfl
theorem q1264 : (Jvm.Cond.methodLink "PloughWills" (180 : Nat) ({ cls := "PloughWills$Will", name := "put", desc := "(II)I" } : Jvm.MethodName)) ∈ lw_all := lw_g (lw_at lw_m5 229 rfl) rfl
theorem q1298 : (Jvm.Cond.instanceMethod ({ cls := "PloughWills", name := "takeOut", desc := "(I)I" } : Jvm.MethodName)) ∈ lw_all := lw_g (lw_at lw_m6 23 rfl) rfl
theorem q1299 : (Jvm.Cond.selects "PloughWills" ({ cls := "PloughWills", name := "takeOut", desc := "(I)I" } : Jvm.MethodName) ({ cls := "PloughWills", name := "takeOut", desc := "(I)I" } : Jvm.MethodName)) ∈ lw_all := lw_g (lw_at lw_m6 24 rfl) rfl
theorem q1300 : (Jvm.Cond.codeWith ({ cls := "PloughWills", name := "takeOut", desc := "(I)I" } : Jvm.MethodName) prog_1_method_20_code (3 : Nat) (Option.some Jvm.ClassFile.FieldType.int) [((5 : Nat), (17 : Nat), (18 : Nat), (1 : Nat))]) ∈ lw_all := lw_g (lw_at lw_m6 25 rfl) rfl
theorem q1301 : (Jvm.Cond.methodLink "PloughWills" (183 : Nat) ({ cls := "PloughWills$Will", name := "takeOut", desc := "(I)I" } : Jvm.MethodName)) ∈ lw_all := lw_g (lw_at lw_m6 26 rfl) rfl
theorem q1309 : (Jvm.Cond.instanceMethod ({ cls := "PloughWills", name := "rate", desc := "(II)I" } : Jvm.MethodName)) ∈ lw_all := lw_g (lw_at lw_m6 34 rfl) rfl
theorem q1310 : (Jvm.Cond.selects "PloughWills" ({ cls := "PloughWills", name := "rate", desc := "(II)I" } : Jvm.MethodName) ({ cls := "PloughWills", name := "rate", desc := "(II)I" } : Jvm.MethodName)) ∈ lw_all := lw_g (lw_at lw_m6 35 rfl) rfl
theorem q1311 : (Jvm.Cond.codeWith ({ cls := "PloughWills", name := "rate", desc := "(II)I" } : Jvm.MethodName) prog_1_method_21_code (4 : Nat) (Option.some Jvm.ClassFile.FieldType.int) [((25 : Nat), (38 : Nat), (39 : Nat), (1 : Nat))]) ∈ lw_all := lw_g (lw_at lw_m6 36 rfl) rfl
theorem q1312 : (Jvm.Cond.methodLink "PloughWills" (186 : Nat) ({ cls := "PloughWills$Will", name := "rate", desc := "(II)I" } : Jvm.MethodName)) ∈ lw_all := lw_g (lw_at lw_m6 37 rfl) rfl
theorem q1321 : (Jvm.Cond.instanceMethod ({ cls := "PloughWills", name := "goodOf", desc := "(II)I" } : Jvm.MethodName)) ∈ lw_all := lw_g (lw_at lw_m6 46 rfl) rfl
theorem q1322 : (Jvm.Cond.selects "PloughWills" ({ cls := "PloughWills", name := "goodOf", desc := "(II)I" } : Jvm.MethodName) ({ cls := "PloughWills", name := "goodOf", desc := "(II)I" } : Jvm.MethodName)) ∈ lw_all := lw_g (lw_at lw_m6 47 rfl) rfl
theorem q1323 : (Jvm.Cond.code ({ cls := "PloughWills", name := "goodOf", desc := "(II)I" } : Jvm.MethodName) prog_1_method_22_code (3 : Nat) (Option.some Jvm.ClassFile.FieldType.int)) ∈ lw_all := lw_g (lw_at lw_m6 48 rfl) rfl
theorem q1324 : (Jvm.Cond.methodLink "PloughWills" (189 : Nat) ({ cls := "PloughWills$Will", name := "kind", desc := "(I)I" } : Jvm.MethodName)) ∈ lw_all := lw_g (lw_at lw_m6 49 rfl) rfl
theorem q1325 : (Jvm.Cond.methodLink "PloughWills" (200 : Nat) ({ cls := "PloughWills$Will", name := "placeOf", desc := "(I)I" } : Jvm.MethodName)) ∈ lw_all := lw_g (lw_at lw_m6 50 rfl) rfl
theorem q1326 : (Jvm.Cond.methodLink "PloughWills" (203 : Nat) ({ cls := "PloughWills$Will", name := "withSort", desc := "(IIIZ)I" } : Jvm.MethodName)) ∈ lw_all := lw_g (lw_at lw_m6 51 rfl) rfl
theorem q1335 : (Jvm.Cond.instanceMethod ({ cls := "PloughWills", name := "chestAt", desc := "(II)I" } : Jvm.MethodName)) ∈ lw_all := lw_g (lw_at lw_m6 60 rfl) rfl
theorem q1336 : (Jvm.Cond.selects "PloughWills" ({ cls := "PloughWills", name := "chestAt", desc := "(II)I" } : Jvm.MethodName) ({ cls := "PloughWills", name := "chestAt", desc := "(II)I" } : Jvm.MethodName)) ∈ lw_all := lw_g (lw_at lw_m6 61 rfl) rfl
theorem q1337 : (Jvm.Cond.code ({ cls := "PloughWills", name := "chestAt", desc := "(II)I" } : Jvm.MethodName) prog_1_method_23_code (3 : Nat) (Option.some Jvm.ClassFile.FieldType.int)) ∈ lw_all := lw_g (lw_at lw_m6 62 rfl) rfl
theorem q1338 : (Jvm.Cond.methodLink "PloughWills" (207 : Nat) ({ cls := "PloughWills$Will", name := "full", desc := "(I)I" } : Jvm.MethodName)) ∈ lw_all := lw_g (lw_at lw_m6 63 rfl) rfl
theorem q1339 : (Jvm.Cond.methodLink "PloughWills" (210 : Nat) ({ cls := "PloughWills", name := "checkElement", desc := "(Z)V" } : Jvm.MethodName)) ∈ lw_all := lw_g (lw_at lw_m6 64 rfl) rfl
theorem q1340 : (Jvm.Cond.static ({ cls := "PloughWills", name := "checkElement", desc := "(Z)V" } : Jvm.MethodName)) ∈ lw_all := lw_g (lw_at lw_m6 65 rfl) rfl
theorem q1341 : (Jvm.Cond.code ({ cls := "PloughWills", name := "checkElement", desc := "(Z)V" } : Jvm.MethodName) prog_1_method_7_code (1 : Nat) (Option.none : Option Jvm.ClassFile.FieldType)) ∈ lw_all := lw_g (lw_at lw_m6 66 rfl) rfl
theorem q1342 : (Jvm.Cond.classLink "PloughWills" (99 : Nat) "java/util/NoSuchElementException") ∈ lw_all := lw_g (lw_at lw_m6 67 rfl) rfl
theorem q1351 : (Jvm.Cond.methodLink "PloughWills" (101 : Nat) ({ cls := "java/util/NoSuchElementException", name := "<init>", desc := "()V" } : Jvm.MethodName)) ∈ lw_all := lw_g (lw_at lw_m6 76 rfl) rfl
theorem q1361 : (Jvm.Cond.instanceMethod ({ cls := "PloughWills", name := "tithe", desc := "(I)F" } : Jvm.MethodName)) ∈ lw_all := lw_g (lw_at lw_m6 86 rfl) rfl
theorem q1362 : (Jvm.Cond.selects "PloughWills" ({ cls := "PloughWills", name := "tithe", desc := "(I)F" } : Jvm.MethodName) ({ cls := "PloughWills", name := "tithe", desc := "(I)F" } : Jvm.MethodName)) ∈ lw_all := lw_g (lw_at lw_m6 87 rfl) rfl
theorem q1363 : (Jvm.Cond.code ({ cls := "PloughWills", name := "tithe", desc := "(I)F" } : Jvm.MethodName) prog_1_method_24_code (2 : Nat) (Option.some Jvm.ClassFile.FieldType.float)) ∈ lw_all := lw_g (lw_at lw_m6 88 rfl) rfl
theorem q1364 : (Jvm.Cond.methodLink "PloughWills" (220 : Nat) ({ cls := "PloughWills$Will", name := "tithe", desc := "(I)F" } : Jvm.MethodName)) ∈ lw_all := lw_g (lw_at lw_m6 89 rfl) rfl
theorem q1372 : (Jvm.Cond.instanceMethod ({ cls := "PloughWills", name := "rateBits", desc := "(I)I" } : Jvm.MethodName)) ∈ lw_all := lw_g (lw_at lw_m6 97 rfl) rfl
theorem q1373 : (Jvm.Cond.selects "PloughWills" ({ cls := "PloughWills", name := "rateBits", desc := "(I)I" } : Jvm.MethodName) ({ cls := "PloughWills", name := "rateBits", desc := "(I)I" } : Jvm.MethodName)) ∈ lw_all := lw_g (lw_at lw_m6 98 rfl) rfl
theorem q1374 : (Jvm.Cond.code ({ cls := "PloughWills", name := "rateBits", desc := "(I)I" } : Jvm.MethodName) prog_1_method_25_code (2 : Nat) (Option.some Jvm.ClassFile.FieldType.int)) ∈ lw_all := lw_g (lw_at lw_m6 99 rfl) rfl
theorem q1375 : (Jvm.Cond.methodLink "PloughWills" (228 : Nat) ({ cls := "java/lang/Float", name := "floatToIntBits", desc := "(F)I" } : Jvm.MethodName)) ∈ lw_all := lw_g (lw_at lw_m6 100 rfl) rfl
theorem q1389 : (Jvm.Cond.instanceMethod ({ cls := "PloughWills", name := "add", desc := "(III)I" } : Jvm.MethodName)) ∈ lw_all := lw_g (lw_at lw_m6 114 rfl) rfl
theorem q1390 : (Jvm.Cond.selects "PloughWills" ({ cls := "PloughWills", name := "add", desc := "(III)I" } : Jvm.MethodName) ({ cls := "PloughWills", name := "add", desc := "(III)I" } : Jvm.MethodName)) ∈ lw_all := lw_g (lw_at lw_m6 115 rfl) rfl
theorem q1391 : (Jvm.Cond.codeWith ({ cls := "PloughWills", name := "add", desc := "(III)I" } : Jvm.MethodName) prog_1_method_26_code (5 : Nat) (Option.some Jvm.ClassFile.FieldType.int) [((7 : Nat), (28 : Nat), (29 : Nat), (1 : Nat))]) ∈ lw_all := lw_g (lw_at lw_m6 116 rfl) rfl
theorem q1392 : (Jvm.Cond.methodLink "PloughWills" (234 : Nat) ({ cls := "PloughWills", name := "isSort", desc := "(I)Z" } : Jvm.MethodName)) ∈ lw_all := lw_g (lw_at lw_m6 117 rfl) rfl
theorem q1393 : (Jvm.Cond.static ({ cls := "PloughWills", name := "isSort", desc := "(I)Z" } : Jvm.MethodName)) ∈ lw_all := lw_g (lw_at lw_m6 118 rfl) rfl
theorem q1394 : (Jvm.Cond.code ({ cls := "PloughWills", name := "isSort", desc := "(I)Z" } : Jvm.MethodName) prog_1_method_13_code (1 : Nat) (Option.some Jvm.ClassFile.FieldType.boolean)) ∈ lw_all := lw_g (lw_at lw_m6 119 rfl) rfl
theorem q1395 : (Jvm.Cond.methodLink "PloughWills" (240 : Nat) ({ cls := "PloughWills$Will", name := "insert", desc := "(IIII)I" } : Jvm.MethodName)) ∈ lw_all := lw_g (lw_at lw_m6 120 rfl) rfl
theorem q1412 : (Jvm.Cond.instanceMethod ({ cls := "PloughWills", name := "insert", desc := "(IIII)I" } : Jvm.MethodName)) ∈ lw_all := lw_g (lw_at lw_m6 137 rfl) rfl
theorem q1413 : (Jvm.Cond.selects "PloughWills" ({ cls := "PloughWills", name := "insert", desc := "(IIII)I" } : Jvm.MethodName) ({ cls := "PloughWills", name := "insert", desc := "(IIII)I" } : Jvm.MethodName)) ∈ lw_all := lw_g (lw_at lw_m6 138 rfl) rfl
theorem q1414 : (Jvm.Cond.codeWith ({ cls := "PloughWills", name := "insert", desc := "(IIII)I" } : Jvm.MethodName) prog_1_method_27_code (6 : Nat) (Option.some Jvm.ClassFile.FieldType.int) [((22 : Nat), (38 : Nat), (39 : Nat), (1 : Nat))]) ∈ lw_all := lw_g (lw_at lw_m6 139 rfl) rfl
theorem q1419 : (Jvm.Cond.instanceMethod ({ cls := "PloughWills", name := "remove", desc := "(I)I" } : Jvm.MethodName)) ∈ lw_all := lw_g (lw_at lw_m6 144 rfl) rfl
theorem q1420 : (Jvm.Cond.selects "PloughWills" ({ cls := "PloughWills", name := "remove", desc := "(I)I" } : Jvm.MethodName) ({ cls := "PloughWills", name := "remove", desc := "(I)I" } : Jvm.MethodName)) ∈ lw_all := lw_g (lw_at lw_m6 145 rfl) rfl
theorem q1421 : (Jvm.Cond.code ({ cls := "PloughWills", name := "remove", desc := "(I)I" } : Jvm.MethodName) prog_1_method_29_code (2 : Nat) (Option.some Jvm.ClassFile.FieldType.int)) ∈ lw_all := lw_g (lw_at lw_m6 146 rfl) rfl
theorem q1422 : (Jvm.Cond.methodLink "PloughWills" (244 : Nat) ({ cls := "PloughWills", name := "checkPlace", desc := "(I)V" } : Jvm.MethodName)) ∈ lw_all := lw_g (lw_at lw_m6 147 rfl) rfl
theorem q1423 : (Jvm.Cond.privateMethod ({ cls := "PloughWills", name := "checkPlace", desc := "(I)V" } : Jvm.MethodName)) ∈ lw_tbl := lw_at lw_m6 148 rfl
theorem q1424 : (Jvm.Cond.instanceMethod ({ cls := "PloughWills", name := "checkPlace", desc := "(I)V" } : Jvm.MethodName)) ∈ lw_all := lw_g (lw_at lw_m6 149 rfl) rfl
theorem q1425 : (Jvm.Cond.code ({ cls := "PloughWills", name := "checkPlace", desc := "(I)V" } : Jvm.MethodName) prog_1_method_28_code (2 : Nat) (Option.none : Option Jvm.ClassFile.FieldType)) ∈ lw_all := lw_g (lw_at lw_m6 150 rfl) rfl
theorem q1426 : (Jvm.Cond.methodLink "PloughWills" (247 : Nat) ({ cls := "PloughWills$Will", name := "remove", desc := "(I)I" } : Jvm.MethodName)) ∈ lw_all := lw_g (lw_at lw_m6 151 rfl) rfl
theorem q1434 : (Jvm.Cond.instanceMethod ({ cls := "PloughWills", name := "clauseOf", desc := "(II)I" } : Jvm.MethodName)) ∈ lw_all := lw_g (lw_at lw_m6 159 rfl) rfl
theorem q1435 : (Jvm.Cond.selects "PloughWills" ({ cls := "PloughWills", name := "clauseOf", desc := "(II)I" } : Jvm.MethodName) ({ cls := "PloughWills", name := "clauseOf", desc := "(II)I" } : Jvm.MethodName)) ∈ lw_all := lw_g (lw_at lw_m6 160 rfl) rfl
theorem q1436 : (Jvm.Cond.code ({ cls := "PloughWills", name := "clauseOf", desc := "(II)I" } : Jvm.MethodName) prog_1_method_30_code (3 : Nat) (Option.some Jvm.ClassFile.FieldType.int)) ∈ lw_all := lw_g (lw_at lw_m6 161 rfl) rfl
theorem q1441 : (Jvm.Cond.instanceMethod ({ cls := "PloughWills", name := "wrong", desc := "(I)I" } : Jvm.MethodName)) ∈ lw_all := lw_g (lw_at lw_m6 166 rfl) rfl
theorem q1442 : (Jvm.Cond.selects "PloughWills" ({ cls := "PloughWills", name := "wrong", desc := "(I)I" } : Jvm.MethodName) ({ cls := "PloughWills", name := "wrong", desc := "(I)I" } : Jvm.MethodName)) ∈ lw_all := lw_g (lw_at lw_m6 167 rfl) rfl
theorem q1443 : (Jvm.Cond.code ({ cls := "PloughWills", name := "wrong", desc := "(I)I" } : Jvm.MethodName) prog_1_method_31_code (2 : Nat) (Option.some Jvm.ClassFile.FieldType.int)) ∈ lw_all := lw_g (lw_at lw_m6 168 rfl) rfl
theorem q1448 : (Jvm.Cond.instanceMethod ({ cls := "PloughWills", name := "goodAt", desc := "(II)I" } : Jvm.MethodName)) ∈ lw_all := lw_g (lw_at lw_m6 173 rfl) rfl
theorem q1449 : (Jvm.Cond.selects "PloughWills" ({ cls := "PloughWills", name := "goodAt", desc := "(II)I" } : Jvm.MethodName) ({ cls := "PloughWills", name := "goodAt", desc := "(II)I" } : Jvm.MethodName)) ∈ lw_all := lw_g (lw_at lw_m6 174 rfl) rfl
theorem q1450 : (Jvm.Cond.code ({ cls := "PloughWills", name := "goodAt", desc := "(II)I" } : Jvm.MethodName) prog_1_method_35_code (3 : Nat) (Option.some Jvm.ClassFile.FieldType.int)) ∈ lw_all := lw_g (lw_at lw_m6 175 rfl) rfl
theorem q1455 : (Jvm.Cond.instanceMethod ({ cls := "PloughWills", name := "ploughAt", desc := "(II)I" } : Jvm.MethodName)) ∈ lw_all := lw_g (lw_at lw_m6 180 rfl) rfl
theorem q1456 : (Jvm.Cond.selects "PloughWills" ({ cls := "PloughWills", name := "ploughAt", desc := "(II)I" } : Jvm.MethodName) ({ cls := "PloughWills", name := "ploughAt", desc := "(II)I" } : Jvm.MethodName)) ∈ lw_all := lw_g (lw_at lw_m6 181 rfl) rfl
theorem q1457 : (Jvm.Cond.code ({ cls := "PloughWills", name := "ploughAt", desc := "(II)I" } : Jvm.MethodName) prog_1_method_36_code (3 : Nat) (Option.some Jvm.ClassFile.FieldType.int)) ∈ lw_all := lw_g (lw_at lw_m6 182 rfl) rfl
theorem q1462 : (Jvm.Cond.instanceMethod ({ cls := "PloughWills", name := "pathOf", desc := "(II)I" } : Jvm.MethodName)) ∈ lw_all := lw_g (lw_at lw_m6 187 rfl) rfl
theorem q1463 : (Jvm.Cond.selects "PloughWills" ({ cls := "PloughWills", name := "pathOf", desc := "(II)I" } : Jvm.MethodName) ({ cls := "PloughWills", name := "pathOf", desc := "(II)I" } : Jvm.MethodName)) ∈ lw_all := lw_g (lw_at lw_m6 188 rfl) rfl
theorem q1464 : (Jvm.Cond.code ({ cls := "PloughWills", name := "pathOf", desc := "(II)I" } : Jvm.MethodName) prog_1_method_39_code (3 : Nat) (Option.some Jvm.ClassFile.FieldType.int)) ∈ lw_all := lw_g (lw_at lw_m6 189 rfl) rfl
theorem q1465 : (Jvm.Cond.methodLink "PloughWills" (303 : Nat) ({ cls := "PloughWills", name := "takes", desc := "(I)V" } : Jvm.MethodName)) ∈ lw_all := lw_g (lw_at lw_m6 190 rfl) rfl
theorem q1466 : (Jvm.Cond.privateMethod ({ cls := "PloughWills", name := "takes", desc := "(I)V" } : Jvm.MethodName)) ∈ lw_tbl := lw_at lw_m6 191 rfl
theorem q1467 : (Jvm.Cond.instanceMethod ({ cls := "PloughWills", name := "takes", desc := "(I)V" } : Jvm.MethodName)) ∈ lw_all := lw_g (lw_at lw_m6 192 rfl) rfl
theorem q1468 : (Jvm.Cond.code ({ cls := "PloughWills", name := "takes", desc := "(I)V" } : Jvm.MethodName) prog_1_method_38_code (2 : Nat) (Option.none : Option Jvm.ClassFile.FieldType)) ∈ lw_all := lw_g (lw_at lw_m6 193 rfl) rfl
theorem q1473 : (Jvm.Cond.instanceMethod ({ cls := "PloughWills", name := "goesBy", desc := "(II)Z" } : Jvm.MethodName)) ∈ lw_all := lw_g (lw_at lw_m6 198 rfl) rfl
theorem q1474 : (Jvm.Cond.selects "PloughWills" ({ cls := "PloughWills", name := "goesBy", desc := "(II)Z" } : Jvm.MethodName) ({ cls := "PloughWills", name := "goesBy", desc := "(II)Z" } : Jvm.MethodName)) ∈ lw_all := lw_g (lw_at lw_m6 199 rfl) rfl
theorem q1475 : (Jvm.Cond.code ({ cls := "PloughWills", name := "goesBy", desc := "(II)Z" } : Jvm.MethodName) prog_1_method_40_code (3 : Nat) (Option.some Jvm.ClassFile.FieldType.boolean)) ∈ lw_all := lw_g (lw_at lw_m6 200 rfl) rfl
theorem q1480 : (Jvm.Cond.instanceMethod ({ cls := "PloughWills", name := "worth", desc := "(ZZ)I" } : Jvm.MethodName)) ∈ lw_all := lw_g (lw_at lw_m6 205 rfl) rfl
theorem q1481 : (Jvm.Cond.selects "PloughWills" ({ cls := "PloughWills", name := "worth", desc := "(ZZ)I" } : Jvm.MethodName) ({ cls := "PloughWills", name := "worth", desc := "(ZZ)I" } : Jvm.MethodName)) ∈ lw_all := lw_g (lw_at lw_m6 206 rfl) rfl
theorem q1482 : (Jvm.Cond.code ({ cls := "PloughWills", name := "worth", desc := "(ZZ)I" } : Jvm.MethodName) prog_1_method_43_code (4 : Nat) (Option.some Jvm.ClassFile.FieldType.int)) ∈ lw_all := lw_g (lw_at lw_m6 207 rfl) rfl
theorem q1487 : (Jvm.Cond.instanceMethod ({ cls := "PloughWills", name := "tithes", desc := "(I)F" } : Jvm.MethodName)) ∈ lw_all := lw_g (lw_at lw_m6 212 rfl) rfl
theorem q1488 : (Jvm.Cond.selects "PloughWills" ({ cls := "PloughWills", name := "tithes", desc := "(I)F" } : Jvm.MethodName) ({ cls := "PloughWills", name := "tithes", desc := "(I)F" } : Jvm.MethodName)) ∈ lw_all := lw_g (lw_at lw_m6 213 rfl) rfl
theorem q1489 : (Jvm.Cond.code ({ cls := "PloughWills", name := "tithes", desc := "(I)F" } : Jvm.MethodName) prog_1_method_44_code (2 : Nat) (Option.some Jvm.ClassFile.FieldType.float)) ∈ lw_all := lw_g (lw_at lw_m6 214 rfl) rfl
theorem q1490 : (Jvm.Cond.methodLink "PloughWills" (342 : Nat) ({ cls := "PloughWills$Path", name := "tithes", desc := "(LPloughWills$Will;)F" } : Jvm.MethodName)) ∈ lw_all := lw_g (lw_at lw_m6 215 rfl) rfl
theorem q1503 : (Jvm.Cond.instanceMethod ({ cls := "PloughWills", name := "richest", desc := "()I" } : Jvm.MethodName)) ∈ lw_all := lw_g (lw_at lw_m6 228 rfl) rfl
theorem q1504 : (Jvm.Cond.selects "PloughWills" ({ cls := "PloughWills", name := "richest", desc := "()I" } : Jvm.MethodName) ({ cls := "PloughWills", name := "richest", desc := "()I" } : Jvm.MethodName)) ∈ lw_all := lw_g (lw_at lw_m6 229 rfl) rfl
theorem q1505 : (Jvm.Cond.code ({ cls := "PloughWills", name := "richest", desc := "()I" } : Jvm.MethodName) prog_1_method_45_code (6 : Nat) (Option.some Jvm.ClassFile.FieldType.int)) ∈ lw_all := lw_g (lw_at lw_m6 230 rfl) rfl
theorem q1506 : (Jvm.Cond.constantFloat "PloughWills" (346 : Nat) (3212836864 : UInt32)) ∈ lw_all := lw_g (lw_at lw_m6 231 rfl) rfl
theorem q1507 : (Jvm.Cond.methodLink "PloughWills" (347 : Nat) ({ cls := "java/lang/Math", name := "max", desc := "(FF)F" } : Jvm.MethodName)) ∈ lw_all := lw_g (lw_at lw_m6 232 rfl) rfl
theorem q1517 : (Jvm.Cond.instanceMethod ({ cls := "PloughWills", name := "character", desc := "(I)C" } : Jvm.MethodName)) ∈ lw_all := lw_g (lw_at lw_m7 2 rfl) rfl
theorem q1518 : (Jvm.Cond.selects "PloughWills" ({ cls := "PloughWills", name := "character", desc := "(I)C" } : Jvm.MethodName) ({ cls := "PloughWills", name := "character", desc := "(I)C" } : Jvm.MethodName)) ∈ lw_all := lw_g (lw_at lw_m7 3 rfl) rfl
theorem q1519 : (Jvm.Cond.code ({ cls := "PloughWills", name := "character", desc := "(I)C" } : Jvm.MethodName) prog_1_method_47_code (2 : Nat) (Option.some Jvm.ClassFile.FieldType.char)) ∈ lw_all := lw_g (lw_at lw_m7 4 rfl) rfl
theorem q1520 : (Jvm.Cond.methodLink "PloughWills" (359 : Nat) ({ cls := "java/lang/StringBuilder", name := "charAt", desc := "(I)C" } : Jvm.MethodName)) ∈ lw_all := lw_g (lw_at lw_m7 5 rfl) rfl
theorem q1535 : (Jvm.Cond.instanceMethod ({ cls := "PloughWills", name := "append", desc := "(C)I" } : Jvm.MethodName)) ∈ lw_all := lw_g (lw_at lw_m7 20 rfl) rfl
theorem q1536 : (Jvm.Cond.selects "PloughWills" ({ cls := "PloughWills", name := "append", desc := "(C)I" } : Jvm.MethodName) ({ cls := "PloughWills", name := "append", desc := "(C)I" } : Jvm.MethodName)) ∈ lw_all := lw_g (lw_at lw_m7 21 rfl) rfl
theorem q1537 : (Jvm.Cond.code ({ cls := "PloughWills", name := "append", desc := "(C)I" } : Jvm.MethodName) prog_1_method_48_code (2 : Nat) (Option.some Jvm.ClassFile.FieldType.int)) ∈ lw_all := lw_g (lw_at lw_m7 22 rfl) rfl
theorem q1538 : (Jvm.Cond.methodLink "PloughWills" (363 : Nat) ({ cls := "PloughWills", name := "checkState", desc := "(Z)V" } : Jvm.MethodName)) ∈ lw_all := lw_g (lw_at lw_m7 23 rfl) rfl
theorem q1539 : (Jvm.Cond.static ({ cls := "PloughWills", name := "checkState", desc := "(Z)V" } : Jvm.MethodName)) ∈ lw_all := lw_g (lw_at lw_m7 24 rfl) rfl
theorem q1540 : (Jvm.Cond.code ({ cls := "PloughWills", name := "checkState", desc := "(Z)V" } : Jvm.MethodName) prog_1_method_8_code (1 : Nat) (Option.none : Option Jvm.ClassFile.FieldType)) ∈ lw_all := lw_g (lw_at lw_m7 25 rfl) rfl
theorem q1541 : (Jvm.Cond.classLink "PloughWills" (102 : Nat) "java/lang/IllegalStateException") ∈ lw_all := lw_g (lw_at lw_m7 26 rfl) rfl
theorem q1542 : (Jvm.Cond.methodLink "PloughWills" (104 : Nat) ({ cls := "java/lang/IllegalStateException", name := "<init>", desc := "()V" } : Jvm.MethodName)) ∈ lw_all := lw_g (lw_at lw_m7 27 rfl) rfl
theorem q1546 : (Jvm.Cond.methodLink "PloughWills" (366 : Nat) ({ cls := "java/lang/StringBuilder", name := "append", desc := "(C)Ljava/lang/StringBuilder;" } : Jvm.MethodName)) ∈ lw_all := lw_g (lw_at lw_m7 31 rfl) rfl
theorem q1551 : (Jvm.Cond.instanceMethod ({ cls := "PloughWills", name := "read", desc := "()I" } : Jvm.MethodName)) ∈ lw_all := lw_g (lw_at lw_m7 36 rfl) rfl
theorem q1552 : (Jvm.Cond.selects "PloughWills" ({ cls := "PloughWills", name := "read", desc := "()I" } : Jvm.MethodName) ({ cls := "PloughWills", name := "read", desc := "()I" } : Jvm.MethodName)) ∈ lw_all := lw_g (lw_at lw_m7 37 rfl) rfl
theorem q1553 : (Jvm.Cond.codeWith ({ cls := "PloughWills", name := "read", desc := "()I" } : Jvm.MethodName) prog_1_method_49_code (3 : Nat) (Option.some Jvm.ClassFile.FieldType.int) [((5 : Nat), (28 : Nat), (38 : Nat), (377 : Nat)), ((5 : Nat), (28 : Nat), (55 : Nat), (1 : Nat)), ((5 : Nat), (28 : Nat), (62 : Nat), (0 : Nat)), ((38 : Nat), (63 : Nat), (62 : Nat), (0 : Nat))]) ∈ lw_all := lw_g (lw_at lw_m7 38 rfl) rfl
theorem q1554 : (Jvm.Cond.classLink "PloughWills" (377 : Nat) "PloughWills$Fault") ∈ lw_all := lw_g (lw_at lw_m7 39 rfl) rfl
theorem q1555 : (Jvm.Cond.methodLink "PloughWills" (370 : Nat) ({ cls := "PloughWills$Reader", name := "read", desc := "()V" } : Jvm.MethodName)) ∈ lw_all := lw_g (lw_at lw_m7 40 rfl) rfl
theorem q1626 : (Jvm.Cond.fieldLinkNest "PloughWills" (379 : Nat) "PloughWills$Fault" "position" "I" "PloughWills") ∈ lw_tbl := lw_at lw_m7 111 rfl
theorem q1636 : (Jvm.Cond.methodLink "PloughWills" (373 : Nat) ({ cls := "PloughWills$Will", name := "reads", desc := "(LPloughWills$Reader;)I" } : Jvm.MethodName)) ∈ lw_all := lw_g (lw_at lw_m7 121 rfl) rfl
theorem q1644 : (Jvm.Cond.instanceMethod ({ cls := "PloughWills", name := "refusal", desc := "(Z)I" } : Jvm.MethodName)) ∈ lw_all := lw_g (lw_at lw_m7 129 rfl) rfl
theorem q1645 : (Jvm.Cond.selects "PloughWills" ({ cls := "PloughWills", name := "refusal", desc := "(Z)I" } : Jvm.MethodName) ({ cls := "PloughWills", name := "refusal", desc := "(Z)I" } : Jvm.MethodName)) ∈ lw_all := lw_g (lw_at lw_m7 130 rfl) rfl
theorem q1646 : (Jvm.Cond.code ({ cls := "PloughWills", name := "refusal", desc := "(Z)I" } : Jvm.MethodName) prog_1_method_51_code (2 : Nat) (Option.some Jvm.ClassFile.FieldType.int)) ∈ lw_all := lw_g (lw_at lw_m7 131 rfl) rfl
theorem q1651 : (Jvm.Cond.instanceMethod ({ cls := "PloughWills", name := "account", desc := "(I)I" } : Jvm.MethodName)) ∈ lw_all := lw_g (lw_at lw_m7 136 rfl) rfl
theorem q1652 : (Jvm.Cond.selects "PloughWills" ({ cls := "PloughWills", name := "account", desc := "(I)I" } : Jvm.MethodName) ({ cls := "PloughWills", name := "account", desc := "(I)I" } : Jvm.MethodName)) ∈ lw_all := lw_g (lw_at lw_m7 137 rfl) rfl
theorem q1653 : (Jvm.Cond.code ({ cls := "PloughWills", name := "account", desc := "(I)I" } : Jvm.MethodName) prog_1_method_53_code (2 : Nat) (Option.some Jvm.ClassFile.FieldType.int)) ∈ lw_all := lw_g (lw_at lw_m7 138 rfl) rfl
theorem q1654 : (Jvm.Cond.methodLink "PloughWills" (384 : Nat) ({ cls := "PloughWills", name := "allWorth", desc := "()I" } : Jvm.MethodName)) ∈ lw_all := lw_g (lw_at lw_m7 139 rfl) rfl
theorem q1655 : (Jvm.Cond.privateMethod ({ cls := "PloughWills", name := "allWorth", desc := "()I" } : Jvm.MethodName)) ∈ lw_tbl := lw_at lw_m7 140 rfl
theorem q1656 : (Jvm.Cond.instanceMethod ({ cls := "PloughWills", name := "allWorth", desc := "()I" } : Jvm.MethodName)) ∈ lw_all := lw_g (lw_at lw_m7 141 rfl) rfl
theorem q1657 : (Jvm.Cond.code ({ cls := "PloughWills", name := "allWorth", desc := "()I" } : Jvm.MethodName) prog_1_method_52_code (3 : Nat) (Option.some Jvm.ClassFile.FieldType.int)) ∈ lw_all := lw_g (lw_at lw_m7 142 rfl) rfl
theorem q1658 : (Jvm.Cond.methodLink "PloughWills" (387 : Nat) ({ cls := "PloughWills$Will", name := "choices", desc := "()I" } : Jvm.MethodName)) ∈ lw_all := lw_g (lw_at lw_m7 143 rfl) rfl
theorem q1662 : (Jvm.Cond.methodLink "PloughWills" (392 : Nat) ({ cls := "java/util/ArrayDeque", name := "size", desc := "()I" } : Jvm.MethodName)) ∈ lw_all := lw_g (lw_at lw_m7 147 rfl) rfl
theorem q1687 : (Jvm.Cond.instanceMethod ({ cls := "PloughWills", name := "meanWorth", desc := "()D" } : Jvm.MethodName)) ∈ lw_all := lw_g (lw_at lw_m7 172 rfl) rfl
theorem q1688 : (Jvm.Cond.selects "PloughWills" ({ cls := "PloughWills", name := "meanWorth", desc := "()D" } : Jvm.MethodName) ({ cls := "PloughWills", name := "meanWorth", desc := "()D" } : Jvm.MethodName)) ∈ lw_all := lw_g (lw_at lw_m7 173 rfl) rfl
theorem q1689 : (Jvm.Cond.code ({ cls := "PloughWills", name := "meanWorth", desc := "()D" } : Jvm.MethodName) prog_1_method_55_code (1 : Nat) (Option.some Jvm.ClassFile.FieldType.double)) ∈ lw_all := lw_g (lw_at lw_m7 174 rfl) rfl
theorem q1690 : (Jvm.Cond.methodLink "PloughWills" (401 : Nat) ({ cls := "PloughWills", name := "checkAny", desc := "(Z)V" } : Jvm.MethodName)) ∈ lw_all := lw_g (lw_at lw_m7 175 rfl) rfl
theorem q1691 : (Jvm.Cond.static ({ cls := "PloughWills", name := "checkAny", desc := "(Z)V" } : Jvm.MethodName)) ∈ lw_all := lw_g (lw_at lw_m7 176 rfl) rfl
theorem q1692 : (Jvm.Cond.code ({ cls := "PloughWills", name := "checkAny", desc := "(Z)V" } : Jvm.MethodName) prog_1_method_10_code (1 : Nat) (Option.none : Option Jvm.ClassFile.FieldType)) ∈ lw_all := lw_g (lw_at lw_m7 177 rfl) rfl
theorem q1693 : (Jvm.Cond.classLink "PloughWills" (108 : Nat) "java/lang/ArithmeticException") ∈ lw_all := lw_g (lw_at lw_m7 178 rfl) rfl
theorem q1694 : (Jvm.Cond.methodLink "PloughWills" (110 : Nat) ({ cls := "java/lang/ArithmeticException", name := "<init>", desc := "()V" } : Jvm.MethodName)) ∈ lw_all := lw_g (lw_at lw_m7 179 rfl) rfl
theorem q1702 : (Jvm.Cond.instanceMethod ({ cls := "PloughWills", name := "undo", desc := "()I" } : Jvm.MethodName)) ∈ lw_all := lw_g (lw_at lw_m7 187 rfl) rfl
theorem q1703 : (Jvm.Cond.selects "PloughWills" ({ cls := "PloughWills", name := "undo", desc := "()I" } : Jvm.MethodName) ({ cls := "PloughWills", name := "undo", desc := "()I" } : Jvm.MethodName)) ∈ lw_all := lw_g (lw_at lw_m7 188 rfl) rfl
theorem q1704 : (Jvm.Cond.code ({ cls := "PloughWills", name := "undo", desc := "()I" } : Jvm.MethodName) prog_1_method_56_code (2 : Nat) (Option.some Jvm.ClassFile.FieldType.int)) ∈ lw_all := lw_g (lw_at lw_m7 189 rfl) rfl
theorem q1705 : (Jvm.Cond.methodLink "PloughWills" (404 : Nat) ({ cls := "java/util/ArrayDeque", name := "pollLast", desc := "()Ljava/lang/Object;" } : Jvm.MethodName)) ∈ lw_all := lw_g (lw_at lw_m7 190 rfl) rfl
theorem q1716 : (Jvm.Cond.instanceMethod ({ cls := "PloughWills", name := "restore", desc := "()I" } : Jvm.MethodName)) ∈ lw_all := lw_g (lw_at lw_m7 201 rfl) rfl
theorem q1717 : (Jvm.Cond.selects "PloughWills" ({ cls := "PloughWills", name := "restore", desc := "()I" } : Jvm.MethodName) ({ cls := "PloughWills", name := "restore", desc := "()I" } : Jvm.MethodName)) ∈ lw_all := lw_g (lw_at lw_m7 202 rfl) rfl
theorem q1718 : (Jvm.Cond.code ({ cls := "PloughWills", name := "restore", desc := "()I" } : Jvm.MethodName) prog_1_method_58_code (1 : Nat) (Option.some Jvm.ClassFile.FieldType.int)) ∈ lw_all := lw_g (lw_at lw_m7 203 rfl) rfl
theorem q2176 : (Jvm.Cond.castable "PloughWills" "java/lang/Object") ∈ lw_tbl := lw_at lw_m9 181 rfl
theorem in_X1 : ∀ w ∈ wsX10, w ∈ lw_all := lw_in wsX10 [557, 559, 561, 563, 565, 567, 569, 571, 573, 575, 577, 579, 581, 583, 585] (by decide +kernel) (by decide +kernel)
/-! PloughWills$Will -/
set_option maxRecDepth 100000
def RX2 : String := "PloughWills$Will"
def TX2 : u_T := fun k => match k with
  | 0 => ("PloughWills$Will", "goods", "[LPloughWills$Good;", true)
  | 1 => ("PloughWills$Will", "chests", "[[LPloughWills$Good;", true)
  | 2 => ("PloughWills$Will", "rates", "[F", true)
  | 3 => ("PloughWills$Will", "hundredths", "[I", true)
  | 4 => ("PloughWills$Will", "sorts", "[I", true)
  | 5 => ("PloughWills$Will", "ones", "[I", true)
  | 6 => ("PloughWills$Will", "others", "[I", true)
  | 7 => ("PloughWills$Will", "many", "I", false)
  | 8 => ("PloughWills$Will", "size", "I", false)
  | _ => ("PloughWills$Will", "changes", "I", false)
def tyX2 : Nat → FieldType := fun k => match k with
  | 0 => .array (.object "PloughWills$Good")
  | 1 => .array (.array (.object "PloughWills$Good"))
  | 2 => .array .float
  | 3 => .array .int
  | 4 => .array .int
  | 5 => .array .int
  | 6 => .array .int
  | 7 => .int
  | 8 => .int
  | _ => .int
abbrev wsX20 : List Cond := u_ws RX2 TX2 10
theorem nmX2 : ∀ a, a < 10 → ∀ b, b < 10 → a ≠ b → (TX2 a).2.1 ≠ (TX2 b).2.1 := by decide +kernel
theorem tyX2_ok : ∀ k, k < 10 → parseFieldDescriptor (TX2 k).2.2.1 = some (tyX2 k) := by decide +kernel
abbrev cX2_init : ByteArray := prog_13_method_1_code
def yX2_init : MethodName := ⟨RX2, "<init>", "()V"⟩
def dkwX2_init_3 : List UInt8 := [42, 16, 24, 188, 10, 181, 0, 36, 42, 16, 24, 188, 10, 181, 0, 39, 177]
abbrev dktX2_init_3 : List UInt8 := dkwX2_init_3 ++ []
def dkwX2_init_2 : List UInt8 := [16, 10, 79, 89, 4, 16, 10, 79, 89, 5, 16, 10, 79, 181, 0, 29, 42, 16, 24, 188, 10, 181, 0, 33]
abbrev dktX2_init_2 : List UInt8 := dkwX2_init_2 ++ dktX2_init_3
def dkwX2_init_1 : List UInt8 := [89, 3, 18, 24, 81, 89, 4, 18, 24, 81, 89, 5, 18, 24, 81, 181, 0, 25, 42, 6, 188, 10, 89, 3]
abbrev dktX2_init_1 : List UInt8 := dkwX2_init_1 ++ dktX2_init_2
def dkwX2_init_0 : List UInt8 := [42, 183, 0, 3, 42, 16, 8, 189, 0, 9, 181, 0, 11, 42, 184, 0, 17, 181, 0, 21, 42, 6, 188, 6]
abbrev dktX2_init_0 : List UInt8 := dkwX2_init_0 ++ dktX2_init_1
theorem dksX2_init_0 : cX2_init.data.toList.drop 0 = dktX2_init_0 := by decide +kernel
theorem dksX2_init_1 : cX2_init.data.toList.drop 24 = dktX2_init_1 := dk_seg dksX2_init_0 24 rfl rfl
theorem dksX2_init_2 : cX2_init.data.toList.drop 48 = dktX2_init_2 := dk_seg dksX2_init_1 24 rfl rfl
theorem dksX2_init_3 : cX2_init.data.toList.drop 72 = dktX2_init_3 := dk_seg dksX2_init_2 24 rfl rfl
theorem dX2_init_0 : decode cX2_init 0 = .ok (.aload_n 0, 1) := dk_42 (dk_at dksX2_init_0 0 rfl rfl)
theorem dX2_init_1 : decode cX2_init 1 = .ok (.invokespecial 3, 3) := dk_183 0 3 (dk_at dksX2_init_0 1 rfl rfl)
theorem dX2_init_4 : decode cX2_init 4 = .ok (.aload_n 0, 1) := dk_42 (dk_at dksX2_init_0 4 rfl rfl)
theorem dX2_init_5 : decode cX2_init 5 = .ok (.bipush 8, 2) := dk_16 8 (dk_at dksX2_init_0 5 rfl rfl)
theorem dX2_init_7 : decode cX2_init 7 = .ok (.anewarray 9, 3) := dk_189 0 9 (dk_at dksX2_init_0 7 rfl rfl)
theorem dX2_init_10 : decode cX2_init 10 = .ok (.putfield 11, 3) := dk_181 0 11 (dk_at dksX2_init_0 10 rfl rfl)
theorem dX2_init_13 : decode cX2_init 13 = .ok (.aload_n 0, 1) := dk_42 (dk_at dksX2_init_0 13 rfl rfl)
theorem dX2_init_14 : decode cX2_init 14 = .ok (.invokestatic 17, 3) := dk_184 0 17 (dk_at dksX2_init_0 14 rfl rfl)
theorem dX2_init_17 : decode cX2_init 17 = .ok (.putfield 21, 3) := dk_181 0 21 (dk_at dksX2_init_0 17 rfl rfl)
theorem dX2_init_20 : decode cX2_init 20 = .ok (.aload_n 0, 1) := dk_42 (dk_at dksX2_init_0 20 rfl rfl)
theorem dX2_init_21 : decode cX2_init 21 = .ok (.iconst 3, 1) := dk_6 (dk_at dksX2_init_0 21 rfl rfl)
theorem dX2_init_22 : decode cX2_init 22 = .ok (.newarray .float, 2) := dk_188_6 (dk_at dksX2_init_0 22 rfl rfl)
theorem dX2_init_24 : decode cX2_init 24 = .ok (.dup, 1) := dk_89 (dk_at dksX2_init_1 0 rfl rfl)
theorem dX2_init_25 : decode cX2_init 25 = .ok (.iconst 0, 1) := dk_3 (dk_at dksX2_init_1 1 rfl rfl)
theorem dX2_init_26 : decode cX2_init 26 = .ok (.ldc 24, 2) := dk_18 24 (dk_at dksX2_init_1 2 rfl rfl)
theorem dX2_init_28 : decode cX2_init 28 = .ok (.fastore, 1) := dk_81 (dk_at dksX2_init_1 4 rfl rfl)
theorem dX2_init_29 : decode cX2_init 29 = .ok (.dup, 1) := dk_89 (dk_at dksX2_init_1 5 rfl rfl)
theorem dX2_init_30 : decode cX2_init 30 = .ok (.iconst 1, 1) := dk_4 (dk_at dksX2_init_1 6 rfl rfl)
theorem dX2_init_31 : decode cX2_init 31 = .ok (.ldc 24, 2) := dk_18 24 (dk_at dksX2_init_1 7 rfl rfl)
theorem dX2_init_33 : decode cX2_init 33 = .ok (.fastore, 1) := dk_81 (dk_at dksX2_init_1 9 rfl rfl)
theorem dX2_init_34 : decode cX2_init 34 = .ok (.dup, 1) := dk_89 (dk_at dksX2_init_1 10 rfl rfl)
theorem dX2_init_35 : decode cX2_init 35 = .ok (.iconst 2, 1) := dk_5 (dk_at dksX2_init_1 11 rfl rfl)
theorem dX2_init_36 : decode cX2_init 36 = .ok (.ldc 24, 2) := dk_18 24 (dk_at dksX2_init_1 12 rfl rfl)
theorem dX2_init_38 : decode cX2_init 38 = .ok (.fastore, 1) := dk_81 (dk_at dksX2_init_1 14 rfl rfl)
theorem dX2_init_39 : decode cX2_init 39 = .ok (.putfield 25, 3) := dk_181 0 25 (dk_at dksX2_init_1 15 rfl rfl)
theorem dX2_init_42 : decode cX2_init 42 = .ok (.aload_n 0, 1) := dk_42 (dk_at dksX2_init_1 18 rfl rfl)
theorem dX2_init_43 : decode cX2_init 43 = .ok (.iconst 3, 1) := dk_6 (dk_at dksX2_init_1 19 rfl rfl)
theorem dX2_init_44 : decode cX2_init 44 = .ok (.newarray .int, 2) := dk_188_10 (dk_at dksX2_init_1 20 rfl rfl)
theorem dX2_init_46 : decode cX2_init 46 = .ok (.dup, 1) := dk_89 (dk_at dksX2_init_1 22 rfl rfl)
theorem dX2_init_47 : decode cX2_init 47 = .ok (.iconst 0, 1) := dk_3 (dk_at dksX2_init_1 23 rfl rfl)
theorem dX2_init_48 : decode cX2_init 48 = .ok (.bipush 10, 2) := dk_16 10 (dk_at dksX2_init_2 0 rfl rfl)
theorem dX2_init_50 : decode cX2_init 50 = .ok (.iastore, 1) := dk_79 (dk_at dksX2_init_2 2 rfl rfl)
theorem dX2_init_51 : decode cX2_init 51 = .ok (.dup, 1) := dk_89 (dk_at dksX2_init_2 3 rfl rfl)
theorem dX2_init_52 : decode cX2_init 52 = .ok (.iconst 1, 1) := dk_4 (dk_at dksX2_init_2 4 rfl rfl)
theorem dX2_init_53 : decode cX2_init 53 = .ok (.bipush 10, 2) := dk_16 10 (dk_at dksX2_init_2 5 rfl rfl)
theorem dX2_init_55 : decode cX2_init 55 = .ok (.iastore, 1) := dk_79 (dk_at dksX2_init_2 7 rfl rfl)
theorem dX2_init_56 : decode cX2_init 56 = .ok (.dup, 1) := dk_89 (dk_at dksX2_init_2 8 rfl rfl)
theorem dX2_init_57 : decode cX2_init 57 = .ok (.iconst 2, 1) := dk_5 (dk_at dksX2_init_2 9 rfl rfl)
theorem dX2_init_58 : decode cX2_init 58 = .ok (.bipush 10, 2) := dk_16 10 (dk_at dksX2_init_2 10 rfl rfl)
theorem dX2_init_60 : decode cX2_init 60 = .ok (.iastore, 1) := dk_79 (dk_at dksX2_init_2 12 rfl rfl)
theorem dX2_init_61 : decode cX2_init 61 = .ok (.putfield 29, 3) := dk_181 0 29 (dk_at dksX2_init_2 13 rfl rfl)
theorem dX2_init_64 : decode cX2_init 64 = .ok (.aload_n 0, 1) := dk_42 (dk_at dksX2_init_2 16 rfl rfl)
theorem dX2_init_65 : decode cX2_init 65 = .ok (.bipush 24, 2) := dk_16 24 (dk_at dksX2_init_2 17 rfl rfl)
theorem dX2_init_67 : decode cX2_init 67 = .ok (.newarray .int, 2) := dk_188_10 (dk_at dksX2_init_2 19 rfl rfl)
theorem dX2_init_69 : decode cX2_init 69 = .ok (.putfield 33, 3) := dk_181 0 33 (dk_at dksX2_init_2 21 rfl rfl)
theorem dX2_init_72 : decode cX2_init 72 = .ok (.aload_n 0, 1) := dk_42 (dk_at dksX2_init_3 0 rfl rfl)
theorem dX2_init_73 : decode cX2_init 73 = .ok (.bipush 24, 2) := dk_16 24 (dk_at dksX2_init_3 1 rfl rfl)
theorem dX2_init_75 : decode cX2_init 75 = .ok (.newarray .int, 2) := dk_188_10 (dk_at dksX2_init_3 3 rfl rfl)
theorem dX2_init_77 : decode cX2_init 77 = .ok (.putfield 36, 3) := dk_181 0 36 (dk_at dksX2_init_3 5 rfl rfl)
theorem dX2_init_80 : decode cX2_init 80 = .ok (.aload_n 0, 1) := dk_42 (dk_at dksX2_init_3 8 rfl rfl)
theorem dX2_init_81 : decode cX2_init 81 = .ok (.bipush 24, 2) := dk_16 24 (dk_at dksX2_init_3 9 rfl rfl)
theorem dX2_init_83 : decode cX2_init 83 = .ok (.newarray .int, 2) := dk_188_10 (dk_at dksX2_init_3 11 rfl rfl)
theorem dX2_init_85 : decode cX2_init 85 = .ok (.putfield 39, 3) := dk_181 0 39 (dk_at dksX2_init_3 13 rfl rfl)
theorem dX2_init_88 : decode cX2_init 88 = .ok (.return_, 1) := dk_177 (dk_at dksX2_init_3 16 rfl rfl)
abbrev cX2_behind : ByteArray := prog_13_method_20_code
def yX2_behind : MethodName := ⟨RX2, "behind", "(III)I"⟩
def dkwX2_behind_4 : List UInt8 := [132, 5, 1, 167, 255, 167, 21, 5, 172]
abbrev dktX2_behind_4 : List UInt8 := dkwX2_behind_4 ++ []
def dkwX2_behind_3 : List UInt8 := [159, 0, 15, 42, 180, 0, 33, 21, 5, 46, 16, 9, 160, 0, 7, 2, 167, 0, 4, 3, 96, 54, 4]
abbrev dktX2_behind_3 : List UInt8 := dkwX2_behind_3 ++ dktX2_behind_4
def dkwX2_behind_2 : List UInt8 := [180, 0, 33, 21, 5, 46, 16, 7, 160, 0, 7, 4, 167, 0, 31, 42, 180, 0, 33, 21, 5, 46, 4]
abbrev dktX2_behind_2 : List UInt8 := dkwX2_behind_2 ++ dktX2_behind_3
def dkwX2_behind_1 : List UInt8 := [180, 0, 33, 21, 5, 46, 29, 159, 0, 68, 21, 4, 42, 180, 0, 33, 21, 5, 46, 153, 0, 15, 42]
abbrev dktX2_behind_1 : List UInt8 := dkwX2_behind_1 ++ dktX2_behind_2
def dkwX2_behind_0 : List UInt8 := [3, 54, 4, 27, 54, 5, 21, 4, 157, 0, 25, 42, 180, 0, 33, 21, 5, 46, 28, 159, 0, 79, 42]
abbrev dktX2_behind_0 : List UInt8 := dkwX2_behind_0 ++ dktX2_behind_1
theorem dksX2_behind_0 : cX2_behind.data.toList.drop 0 = dktX2_behind_0 := by decide +kernel
theorem dksX2_behind_1 : cX2_behind.data.toList.drop 23 = dktX2_behind_1 := dk_seg dksX2_behind_0 23 rfl rfl
theorem dksX2_behind_2 : cX2_behind.data.toList.drop 46 = dktX2_behind_2 := dk_seg dksX2_behind_1 23 rfl rfl
theorem dksX2_behind_3 : cX2_behind.data.toList.drop 69 = dktX2_behind_3 := dk_seg dksX2_behind_2 23 rfl rfl
theorem dksX2_behind_4 : cX2_behind.data.toList.drop 92 = dktX2_behind_4 := dk_seg dksX2_behind_3 23 rfl rfl
theorem dX2_behind_0 : decode cX2_behind 0 = .ok (.iconst 0, 1) := dk_3 (dk_at dksX2_behind_0 0 rfl rfl)
theorem dX2_behind_1 : decode cX2_behind 1 = .ok (.istore 4, 2) := dk_54 4 (dk_at dksX2_behind_0 1 rfl rfl)
theorem dX2_behind_3 : decode cX2_behind 3 = .ok (.iload_n 1, 1) := dk_27 (dk_at dksX2_behind_0 3 rfl rfl)
theorem dX2_behind_4 : decode cX2_behind 4 = .ok (.istore 5, 2) := dk_54 5 (dk_at dksX2_behind_0 4 rfl rfl)
theorem dX2_behind_6 : decode cX2_behind 6 = .ok (.iload 4, 2) := dk_21 4 (dk_at dksX2_behind_0 6 rfl rfl)
theorem dX2_behind_8 : decode cX2_behind 8 = .ok (.ifCond .gt 25, 3) := dk_157 0 25 (dk_at dksX2_behind_0 8 rfl rfl)
theorem dX2_behind_11 : decode cX2_behind 11 = .ok (.aload_n 0, 1) := dk_42 (dk_at dksX2_behind_0 11 rfl rfl)
theorem dX2_behind_12 : decode cX2_behind 12 = .ok (.getfield 33, 3) := dk_180 0 33 (dk_at dksX2_behind_0 12 rfl rfl)
theorem dX2_behind_15 : decode cX2_behind 15 = .ok (.iload 5, 2) := dk_21 5 (dk_at dksX2_behind_0 15 rfl rfl)
theorem dX2_behind_17 : decode cX2_behind 17 = .ok (.iaload, 1) := dk_46 (dk_at dksX2_behind_0 17 rfl rfl)
theorem dX2_behind_18 : decode cX2_behind 18 = .ok (.iload_n 2, 1) := dk_28 (dk_at dksX2_behind_0 18 rfl rfl)
theorem dX2_behind_19 : decode cX2_behind 19 = .ok (.if_icmp .eq 79, 3) := dk_159 0 79 (dk_at dksX2_behind_0 19 rfl rfl)
theorem dX2_behind_22 : decode cX2_behind 22 = .ok (.aload_n 0, 1) := dk_42 (dk_at dksX2_behind_0 22 rfl rfl)
theorem dX2_behind_23 : decode cX2_behind 23 = .ok (.getfield 33, 3) := dk_180 0 33 (dk_at dksX2_behind_1 0 rfl rfl)
theorem dX2_behind_26 : decode cX2_behind 26 = .ok (.iload 5, 2) := dk_21 5 (dk_at dksX2_behind_1 3 rfl rfl)
theorem dX2_behind_28 : decode cX2_behind 28 = .ok (.iaload, 1) := dk_46 (dk_at dksX2_behind_1 5 rfl rfl)
theorem dX2_behind_29 : decode cX2_behind 29 = .ok (.iload_n 3, 1) := dk_29 (dk_at dksX2_behind_1 6 rfl rfl)
theorem dX2_behind_30 : decode cX2_behind 30 = .ok (.if_icmp .eq 68, 3) := dk_159 0 68 (dk_at dksX2_behind_1 7 rfl rfl)
theorem dX2_behind_33 : decode cX2_behind 33 = .ok (.iload 4, 2) := dk_21 4 (dk_at dksX2_behind_1 10 rfl rfl)
theorem dX2_behind_35 : decode cX2_behind 35 = .ok (.aload_n 0, 1) := dk_42 (dk_at dksX2_behind_1 12 rfl rfl)
theorem dX2_behind_36 : decode cX2_behind 36 = .ok (.getfield 33, 3) := dk_180 0 33 (dk_at dksX2_behind_1 13 rfl rfl)
theorem dX2_behind_39 : decode cX2_behind 39 = .ok (.iload 5, 2) := dk_21 5 (dk_at dksX2_behind_1 16 rfl rfl)
theorem dX2_behind_41 : decode cX2_behind 41 = .ok (.iaload, 1) := dk_46 (dk_at dksX2_behind_1 18 rfl rfl)
theorem dX2_behind_42 : decode cX2_behind 42 = .ok (.ifCond .eq 15, 3) := dk_153 0 15 (dk_at dksX2_behind_1 19 rfl rfl)
theorem dX2_behind_45 : decode cX2_behind 45 = .ok (.aload_n 0, 1) := dk_42 (dk_at dksX2_behind_1 22 rfl rfl)
theorem dX2_behind_46 : decode cX2_behind 46 = .ok (.getfield 33, 3) := dk_180 0 33 (dk_at dksX2_behind_2 0 rfl rfl)
theorem dX2_behind_49 : decode cX2_behind 49 = .ok (.iload 5, 2) := dk_21 5 (dk_at dksX2_behind_2 3 rfl rfl)
theorem dX2_behind_51 : decode cX2_behind 51 = .ok (.iaload, 1) := dk_46 (dk_at dksX2_behind_2 5 rfl rfl)
theorem dX2_behind_52 : decode cX2_behind 52 = .ok (.bipush 7, 2) := dk_16 7 (dk_at dksX2_behind_2 6 rfl rfl)
theorem dX2_behind_54 : decode cX2_behind 54 = .ok (.if_icmp .ne 7, 3) := dk_160 0 7 (dk_at dksX2_behind_2 8 rfl rfl)
theorem dX2_behind_57 : decode cX2_behind 57 = .ok (.iconst 1, 1) := dk_4 (dk_at dksX2_behind_2 11 rfl rfl)
theorem dX2_behind_58 : decode cX2_behind 58 = .ok (.goto 31, 3) := dk_167 0 31 (dk_at dksX2_behind_2 12 rfl rfl)
theorem dX2_behind_61 : decode cX2_behind 61 = .ok (.aload_n 0, 1) := dk_42 (dk_at dksX2_behind_2 15 rfl rfl)
theorem dX2_behind_62 : decode cX2_behind 62 = .ok (.getfield 33, 3) := dk_180 0 33 (dk_at dksX2_behind_2 16 rfl rfl)
theorem dX2_behind_65 : decode cX2_behind 65 = .ok (.iload 5, 2) := dk_21 5 (dk_at dksX2_behind_2 19 rfl rfl)
theorem dX2_behind_67 : decode cX2_behind 67 = .ok (.iaload, 1) := dk_46 (dk_at dksX2_behind_2 21 rfl rfl)
theorem dX2_behind_68 : decode cX2_behind 68 = .ok (.iconst 1, 1) := dk_4 (dk_at dksX2_behind_2 22 rfl rfl)
theorem dX2_behind_69 : decode cX2_behind 69 = .ok (.if_icmp .eq 15, 3) := dk_159 0 15 (dk_at dksX2_behind_3 0 rfl rfl)
theorem dX2_behind_72 : decode cX2_behind 72 = .ok (.aload_n 0, 1) := dk_42 (dk_at dksX2_behind_3 3 rfl rfl)
theorem dX2_behind_73 : decode cX2_behind 73 = .ok (.getfield 33, 3) := dk_180 0 33 (dk_at dksX2_behind_3 4 rfl rfl)
theorem dX2_behind_76 : decode cX2_behind 76 = .ok (.iload 5, 2) := dk_21 5 (dk_at dksX2_behind_3 7 rfl rfl)
theorem dX2_behind_78 : decode cX2_behind 78 = .ok (.iaload, 1) := dk_46 (dk_at dksX2_behind_3 9 rfl rfl)
theorem dX2_behind_79 : decode cX2_behind 79 = .ok (.bipush 9, 2) := dk_16 9 (dk_at dksX2_behind_3 10 rfl rfl)
theorem dX2_behind_81 : decode cX2_behind 81 = .ok (.if_icmp .ne 7, 3) := dk_160 0 7 (dk_at dksX2_behind_3 12 rfl rfl)
theorem dX2_behind_84 : decode cX2_behind 84 = .ok (.iconst (-1), 1) := dk_2 (dk_at dksX2_behind_3 15 rfl rfl)
theorem dX2_behind_85 : decode cX2_behind 85 = .ok (.goto 4, 3) := dk_167 0 4 (dk_at dksX2_behind_3 16 rfl rfl)
theorem dX2_behind_88 : decode cX2_behind 88 = .ok (.iconst 0, 1) := dk_3 (dk_at dksX2_behind_3 19 rfl rfl)
theorem dX2_behind_89 : decode cX2_behind 89 = .ok (.iadd, 1) := dk_96 (dk_at dksX2_behind_3 20 rfl rfl)
theorem dX2_behind_90 : decode cX2_behind 90 = .ok (.istore 4, 2) := dk_54 4 (dk_at dksX2_behind_3 21 rfl rfl)
theorem dX2_behind_92 : decode cX2_behind 92 = .ok (.iinc 5 1, 3) := dk_132 5 1 (dk_at dksX2_behind_4 0 rfl rfl)
theorem dX2_behind_95 : decode cX2_behind 95 = .ok (.goto (-89), 3) := dk_167 255 167 (dk_at dksX2_behind_4 3 rfl rfl)
theorem dX2_behind_98 : decode cX2_behind 98 = .ok (.iload 5, 2) := dk_21 5 (dk_at dksX2_behind_4 6 rfl rfl)
theorem dX2_behind_100 : decode cX2_behind 100 = .ok (.ireturn, 1) := dk_172 (dk_at dksX2_behind_4 8 rfl rfl)
abbrev cX2_kind : ByteArray := prog_13_method_4_code
def yX2_kind : MethodName := ⟨RX2, "kind", "(I)I"⟩
def dkwX2_kind_0 : List UInt8 := [42, 180, 0, 11, 27, 50, 180, 0, 62, 172]
abbrev dktX2_kind_0 : List UInt8 := dkwX2_kind_0 ++ []
theorem dksX2_kind_0 : cX2_kind.data.toList.drop 0 = dktX2_kind_0 := by decide +kernel
theorem dX2_kind_0 : decode cX2_kind 0 = .ok (.aload_n 0, 1) := dk_42 (dk_at dksX2_kind_0 0 rfl rfl)
theorem dX2_kind_1 : decode cX2_kind 1 = .ok (.getfield 11, 3) := dk_180 0 11 (dk_at dksX2_kind_0 1 rfl rfl)
theorem dX2_kind_4 : decode cX2_kind 4 = .ok (.iload_n 1, 1) := dk_27 (dk_at dksX2_kind_0 4 rfl rfl)
theorem dX2_kind_5 : decode cX2_kind 5 = .ok (.aaload, 1) := dk_50 (dk_at dksX2_kind_0 5 rfl rfl)
theorem dX2_kind_6 : decode cX2_kind 6 = .ok (.getfield 62, 3) := dk_180 0 62 (dk_at dksX2_kind_0 6 rfl rfl)
theorem dX2_kind_9 : decode cX2_kind 9 = .ok (.ireturn, 1) := dk_172 (dk_at dksX2_kind_0 9 rfl rfl)
abbrev cX2_writes : ByteArray := prog_13_method_23_code
def yX2_writes : MethodName := ⟨RX2, "writes", "(Ljava/lang/StringBuilder;)V"⟩
def dkwX2_writes_3 : List UInt8 := [180, 0, 39, 28, 46, 182, 0, 128, 87, 132, 2, 1, 167, 255, 178, 177]
abbrev dktX2_writes_3 : List UInt8 := dkwX2_writes_3 ++ []
def dkwX2_writes_2 : List UInt8 := [28, 46, 182, 0, 128, 87, 42, 180, 0, 33, 28, 46, 7, 8, 184, 0, 58, 153, 0, 14, 43, 42]
abbrev dktX2_writes_2 : List UInt8 := dkwX2_writes_2 ++ dktX2_writes_3
def dkwX2_writes_1 : List UInt8 := [182, 0, 122, 87, 42, 180, 0, 33, 28, 46, 5, 16, 6, 184, 0, 58, 153, 0, 14, 43, 42, 180, 0, 36]
abbrev dktX2_writes_1 : List UInt8 := dkwX2_writes_1 ++ dktX2_writes_2
def dkwX2_writes_0 : List UInt8 := [3, 61, 28, 42, 180, 0, 52, 162, 0, 76, 43, 18, 114, 42, 180, 0, 33, 28, 46, 182, 0, 116]
abbrev dktX2_writes_0 : List UInt8 := dkwX2_writes_0 ++ dktX2_writes_1
theorem dksX2_writes_0 : cX2_writes.data.toList.drop 0 = dktX2_writes_0 := by decide +kernel
theorem dksX2_writes_1 : cX2_writes.data.toList.drop 22 = dktX2_writes_1 := dk_seg dksX2_writes_0 22 rfl rfl
theorem dksX2_writes_2 : cX2_writes.data.toList.drop 46 = dktX2_writes_2 := dk_seg dksX2_writes_1 24 rfl rfl
theorem dksX2_writes_3 : cX2_writes.data.toList.drop 68 = dktX2_writes_3 := dk_seg dksX2_writes_2 22 rfl rfl
theorem dX2_writes_0 : decode cX2_writes 0 = .ok (.iconst 0, 1) := dk_3 (dk_at dksX2_writes_0 0 rfl rfl)
theorem dX2_writes_1 : decode cX2_writes 1 = .ok (.istore_n 2, 1) := dk_61 (dk_at dksX2_writes_0 1 rfl rfl)
theorem dX2_writes_2 : decode cX2_writes 2 = .ok (.iload_n 2, 1) := dk_28 (dk_at dksX2_writes_0 2 rfl rfl)
theorem dX2_writes_3 : decode cX2_writes 3 = .ok (.aload_n 0, 1) := dk_42 (dk_at dksX2_writes_0 3 rfl rfl)
theorem dX2_writes_4 : decode cX2_writes 4 = .ok (.getfield 52, 3) := dk_180 0 52 (dk_at dksX2_writes_0 4 rfl rfl)
theorem dX2_writes_7 : decode cX2_writes 7 = .ok (.if_icmp .ge 76, 3) := dk_162 0 76 (dk_at dksX2_writes_0 7 rfl rfl)
theorem dX2_writes_10 : decode cX2_writes 10 = .ok (.aload_n 1, 1) := dk_43 (dk_at dksX2_writes_0 10 rfl rfl)
theorem dX2_writes_11 : decode cX2_writes 11 = .ok (.ldc 114, 2) := dk_18 114 (dk_at dksX2_writes_0 11 rfl rfl)
theorem dX2_writes_13 : decode cX2_writes 13 = .ok (.aload_n 0, 1) := dk_42 (dk_at dksX2_writes_0 13 rfl rfl)
theorem dX2_writes_14 : decode cX2_writes 14 = .ok (.getfield 33, 3) := dk_180 0 33 (dk_at dksX2_writes_0 14 rfl rfl)
theorem dX2_writes_17 : decode cX2_writes 17 = .ok (.iload_n 2, 1) := dk_28 (dk_at dksX2_writes_0 17 rfl rfl)
theorem dX2_writes_18 : decode cX2_writes 18 = .ok (.iaload, 1) := dk_46 (dk_at dksX2_writes_0 18 rfl rfl)
theorem dX2_writes_19 : decode cX2_writes 19 = .ok (.invokevirtual 116, 3) := dk_182 0 116 (dk_at dksX2_writes_0 19 rfl rfl)
theorem dX2_writes_22 : decode cX2_writes 22 = .ok (.invokevirtual 122, 3) := dk_182 0 122 (dk_at dksX2_writes_1 0 rfl rfl)
theorem dX2_writes_25 : decode cX2_writes 25 = .ok (.pop, 1) := dk_87 (dk_at dksX2_writes_1 3 rfl rfl)
theorem dX2_writes_26 : decode cX2_writes 26 = .ok (.aload_n 0, 1) := dk_42 (dk_at dksX2_writes_1 4 rfl rfl)
theorem dX2_writes_27 : decode cX2_writes 27 = .ok (.getfield 33, 3) := dk_180 0 33 (dk_at dksX2_writes_1 5 rfl rfl)
theorem dX2_writes_30 : decode cX2_writes 30 = .ok (.iload_n 2, 1) := dk_28 (dk_at dksX2_writes_1 8 rfl rfl)
theorem dX2_writes_31 : decode cX2_writes 31 = .ok (.iaload, 1) := dk_46 (dk_at dksX2_writes_1 9 rfl rfl)
theorem dX2_writes_32 : decode cX2_writes 32 = .ok (.iconst 2, 1) := dk_5 (dk_at dksX2_writes_1 10 rfl rfl)
theorem dX2_writes_33 : decode cX2_writes 33 = .ok (.bipush 6, 2) := dk_16 6 (dk_at dksX2_writes_1 11 rfl rfl)
theorem dX2_writes_35 : decode cX2_writes 35 = .ok (.invokestatic 58, 3) := dk_184 0 58 (dk_at dksX2_writes_1 13 rfl rfl)
theorem dX2_writes_38 : decode cX2_writes 38 = .ok (.ifCond .eq 14, 3) := dk_153 0 14 (dk_at dksX2_writes_1 16 rfl rfl)
theorem dX2_writes_41 : decode cX2_writes 41 = .ok (.aload_n 1, 1) := dk_43 (dk_at dksX2_writes_1 19 rfl rfl)
theorem dX2_writes_42 : decode cX2_writes 42 = .ok (.aload_n 0, 1) := dk_42 (dk_at dksX2_writes_1 20 rfl rfl)
theorem dX2_writes_43 : decode cX2_writes 43 = .ok (.getfield 36, 3) := dk_180 0 36 (dk_at dksX2_writes_1 21 rfl rfl)
theorem dX2_writes_46 : decode cX2_writes 46 = .ok (.iload_n 2, 1) := dk_28 (dk_at dksX2_writes_2 0 rfl rfl)
theorem dX2_writes_47 : decode cX2_writes 47 = .ok (.iaload, 1) := dk_46 (dk_at dksX2_writes_2 1 rfl rfl)
theorem dX2_writes_48 : decode cX2_writes 48 = .ok (.invokevirtual 128, 3) := dk_182 0 128 (dk_at dksX2_writes_2 2 rfl rfl)
theorem dX2_writes_51 : decode cX2_writes 51 = .ok (.pop, 1) := dk_87 (dk_at dksX2_writes_2 5 rfl rfl)
theorem dX2_writes_52 : decode cX2_writes 52 = .ok (.aload_n 0, 1) := dk_42 (dk_at dksX2_writes_2 6 rfl rfl)
theorem dX2_writes_53 : decode cX2_writes 53 = .ok (.getfield 33, 3) := dk_180 0 33 (dk_at dksX2_writes_2 7 rfl rfl)
theorem dX2_writes_56 : decode cX2_writes 56 = .ok (.iload_n 2, 1) := dk_28 (dk_at dksX2_writes_2 10 rfl rfl)
theorem dX2_writes_57 : decode cX2_writes 57 = .ok (.iaload, 1) := dk_46 (dk_at dksX2_writes_2 11 rfl rfl)
theorem dX2_writes_58 : decode cX2_writes 58 = .ok (.iconst 4, 1) := dk_7 (dk_at dksX2_writes_2 12 rfl rfl)
theorem dX2_writes_59 : decode cX2_writes 59 = .ok (.iconst 5, 1) := dk_8 (dk_at dksX2_writes_2 13 rfl rfl)
theorem dX2_writes_60 : decode cX2_writes 60 = .ok (.invokestatic 58, 3) := dk_184 0 58 (dk_at dksX2_writes_2 14 rfl rfl)
theorem dX2_writes_63 : decode cX2_writes 63 = .ok (.ifCond .eq 14, 3) := dk_153 0 14 (dk_at dksX2_writes_2 17 rfl rfl)
theorem dX2_writes_66 : decode cX2_writes 66 = .ok (.aload_n 1, 1) := dk_43 (dk_at dksX2_writes_2 20 rfl rfl)
theorem dX2_writes_67 : decode cX2_writes 67 = .ok (.aload_n 0, 1) := dk_42 (dk_at dksX2_writes_2 21 rfl rfl)
theorem dX2_writes_68 : decode cX2_writes 68 = .ok (.getfield 39, 3) := dk_180 0 39 (dk_at dksX2_writes_3 0 rfl rfl)
theorem dX2_writes_71 : decode cX2_writes 71 = .ok (.iload_n 2, 1) := dk_28 (dk_at dksX2_writes_3 3 rfl rfl)
theorem dX2_writes_72 : decode cX2_writes 72 = .ok (.iaload, 1) := dk_46 (dk_at dksX2_writes_3 4 rfl rfl)
theorem dX2_writes_73 : decode cX2_writes 73 = .ok (.invokevirtual 128, 3) := dk_182 0 128 (dk_at dksX2_writes_3 5 rfl rfl)
theorem dX2_writes_76 : decode cX2_writes 76 = .ok (.pop, 1) := dk_87 (dk_at dksX2_writes_3 8 rfl rfl)
theorem dX2_writes_77 : decode cX2_writes 77 = .ok (.iinc 2 1, 3) := dk_132 2 1 (dk_at dksX2_writes_3 9 rfl rfl)
theorem dX2_writes_80 : decode cX2_writes 80 = .ok (.goto (-78), 3) := dk_167 255 178 (dk_at dksX2_writes_3 12 rfl rfl)
theorem dX2_writes_83 : decode cX2_writes 83 = .ok (.return_, 1) := dk_177 (dk_at dksX2_writes_3 15 rfl rfl)
abbrev cX2_areInTheirChests : ByteArray := prog_13_method_24_code
def yX2_areInTheirChests : MethodName := ⟨RX2, "areInTheirChests", "()Z"⟩
def dkwX2_areInTheirChests_3 : List UInt8 := [172]
abbrev dktX2_areInTheirChests_3 : List UInt8 := dkwX2_areInTheirChests_3 ++ []
def dkwX2_areInTheirChests_2 : List UInt8 := [28, 160, 0, 7, 4, 167, 0, 4, 3, 126, 60, 132, 5, 1, 167, 255, 218, 132, 2, 1, 167, 255, 193, 27]
abbrev dktX2_areInTheirChests_2 : List UInt8 := dkwX2_areInTheirChests_2 ++ dktX2_areInTheirChests_3
def dkwX2_areInTheirChests_1 : List UInt8 := [21, 5, 21, 4, 162, 0, 37, 45, 21, 5, 50, 58, 6, 27, 25, 6, 198, 0, 12, 25, 6, 180, 0, 62]
abbrev dktX2_areInTheirChests_1 : List UInt8 := dkwX2_areInTheirChests_1 ++ dktX2_areInTheirChests_2
def dkwX2_areInTheirChests_0 : List UInt8 := [4, 60, 3, 61, 28, 6, 162, 0, 64, 42, 180, 0, 21, 28, 50, 78, 45, 190, 54, 4, 3, 54, 5]
abbrev dktX2_areInTheirChests_0 : List UInt8 := dkwX2_areInTheirChests_0 ++ dktX2_areInTheirChests_1
theorem dksX2_areInTheirChests_0 : cX2_areInTheirChests.data.toList.drop 0 = dktX2_areInTheirChests_0 := by decide +kernel
theorem dksX2_areInTheirChests_1 : cX2_areInTheirChests.data.toList.drop 23 = dktX2_areInTheirChests_1 := dk_seg dksX2_areInTheirChests_0 23 rfl rfl
theorem dksX2_areInTheirChests_2 : cX2_areInTheirChests.data.toList.drop 47 = dktX2_areInTheirChests_2 := dk_seg dksX2_areInTheirChests_1 24 rfl rfl
theorem dksX2_areInTheirChests_3 : cX2_areInTheirChests.data.toList.drop 71 = dktX2_areInTheirChests_3 := dk_seg dksX2_areInTheirChests_2 24 rfl rfl
theorem dX2_areInTheirChests_0 : decode cX2_areInTheirChests 0 = .ok (.iconst 1, 1) := dk_4 (dk_at dksX2_areInTheirChests_0 0 rfl rfl)
theorem dX2_areInTheirChests_1 : decode cX2_areInTheirChests 1 = .ok (.istore_n 1, 1) := dk_60 (dk_at dksX2_areInTheirChests_0 1 rfl rfl)
theorem dX2_areInTheirChests_2 : decode cX2_areInTheirChests 2 = .ok (.iconst 0, 1) := dk_3 (dk_at dksX2_areInTheirChests_0 2 rfl rfl)
theorem dX2_areInTheirChests_3 : decode cX2_areInTheirChests 3 = .ok (.istore_n 2, 1) := dk_61 (dk_at dksX2_areInTheirChests_0 3 rfl rfl)
theorem dX2_areInTheirChests_4 : decode cX2_areInTheirChests 4 = .ok (.iload_n 2, 1) := dk_28 (dk_at dksX2_areInTheirChests_0 4 rfl rfl)
theorem dX2_areInTheirChests_5 : decode cX2_areInTheirChests 5 = .ok (.iconst 3, 1) := dk_6 (dk_at dksX2_areInTheirChests_0 5 rfl rfl)
theorem dX2_areInTheirChests_6 : decode cX2_areInTheirChests 6 = .ok (.if_icmp .ge 64, 3) := dk_162 0 64 (dk_at dksX2_areInTheirChests_0 6 rfl rfl)
theorem dX2_areInTheirChests_9 : decode cX2_areInTheirChests 9 = .ok (.aload_n 0, 1) := dk_42 (dk_at dksX2_areInTheirChests_0 9 rfl rfl)
theorem dX2_areInTheirChests_10 : decode cX2_areInTheirChests 10 = .ok (.getfield 21, 3) := dk_180 0 21 (dk_at dksX2_areInTheirChests_0 10 rfl rfl)
theorem dX2_areInTheirChests_13 : decode cX2_areInTheirChests 13 = .ok (.iload_n 2, 1) := dk_28 (dk_at dksX2_areInTheirChests_0 13 rfl rfl)
theorem dX2_areInTheirChests_14 : decode cX2_areInTheirChests 14 = .ok (.aaload, 1) := dk_50 (dk_at dksX2_areInTheirChests_0 14 rfl rfl)
theorem dX2_areInTheirChests_15 : decode cX2_areInTheirChests 15 = .ok (.astore_n 3, 1) := dk_78 (dk_at dksX2_areInTheirChests_0 15 rfl rfl)
theorem dX2_areInTheirChests_16 : decode cX2_areInTheirChests 16 = .ok (.aload_n 3, 1) := dk_45 (dk_at dksX2_areInTheirChests_0 16 rfl rfl)
theorem dX2_areInTheirChests_17 : decode cX2_areInTheirChests 17 = .ok (.arraylength, 1) := dk_190 (dk_at dksX2_areInTheirChests_0 17 rfl rfl)
theorem dX2_areInTheirChests_18 : decode cX2_areInTheirChests 18 = .ok (.istore 4, 2) := dk_54 4 (dk_at dksX2_areInTheirChests_0 18 rfl rfl)
theorem dX2_areInTheirChests_20 : decode cX2_areInTheirChests 20 = .ok (.iconst 0, 1) := dk_3 (dk_at dksX2_areInTheirChests_0 20 rfl rfl)
theorem dX2_areInTheirChests_21 : decode cX2_areInTheirChests 21 = .ok (.istore 5, 2) := dk_54 5 (dk_at dksX2_areInTheirChests_0 21 rfl rfl)
theorem dX2_areInTheirChests_23 : decode cX2_areInTheirChests 23 = .ok (.iload 5, 2) := dk_21 5 (dk_at dksX2_areInTheirChests_1 0 rfl rfl)
theorem dX2_areInTheirChests_25 : decode cX2_areInTheirChests 25 = .ok (.iload 4, 2) := dk_21 4 (dk_at dksX2_areInTheirChests_1 2 rfl rfl)
theorem dX2_areInTheirChests_27 : decode cX2_areInTheirChests 27 = .ok (.if_icmp .ge 37, 3) := dk_162 0 37 (dk_at dksX2_areInTheirChests_1 4 rfl rfl)
theorem dX2_areInTheirChests_30 : decode cX2_areInTheirChests 30 = .ok (.aload_n 3, 1) := dk_45 (dk_at dksX2_areInTheirChests_1 7 rfl rfl)
theorem dX2_areInTheirChests_31 : decode cX2_areInTheirChests 31 = .ok (.iload 5, 2) := dk_21 5 (dk_at dksX2_areInTheirChests_1 8 rfl rfl)
theorem dX2_areInTheirChests_33 : decode cX2_areInTheirChests 33 = .ok (.aaload, 1) := dk_50 (dk_at dksX2_areInTheirChests_1 10 rfl rfl)
theorem dX2_areInTheirChests_34 : decode cX2_areInTheirChests 34 = .ok (.astore 6, 2) := dk_58 6 (dk_at dksX2_areInTheirChests_1 11 rfl rfl)
theorem dX2_areInTheirChests_36 : decode cX2_areInTheirChests 36 = .ok (.iload_n 1, 1) := dk_27 (dk_at dksX2_areInTheirChests_1 13 rfl rfl)
theorem dX2_areInTheirChests_37 : decode cX2_areInTheirChests 37 = .ok (.aload 6, 2) := dk_25 6 (dk_at dksX2_areInTheirChests_1 14 rfl rfl)
theorem dX2_areInTheirChests_39 : decode cX2_areInTheirChests 39 = .ok (.ifnull 12, 3) := dk_198 0 12 (dk_at dksX2_areInTheirChests_1 16 rfl rfl)
theorem dX2_areInTheirChests_42 : decode cX2_areInTheirChests 42 = .ok (.aload 6, 2) := dk_25 6 (dk_at dksX2_areInTheirChests_1 19 rfl rfl)
theorem dX2_areInTheirChests_44 : decode cX2_areInTheirChests 44 = .ok (.getfield 62, 3) := dk_180 0 62 (dk_at dksX2_areInTheirChests_1 21 rfl rfl)
theorem dX2_areInTheirChests_47 : decode cX2_areInTheirChests 47 = .ok (.iload_n 2, 1) := dk_28 (dk_at dksX2_areInTheirChests_2 0 rfl rfl)
theorem dX2_areInTheirChests_48 : decode cX2_areInTheirChests 48 = .ok (.if_icmp .ne 7, 3) := dk_160 0 7 (dk_at dksX2_areInTheirChests_2 1 rfl rfl)
theorem dX2_areInTheirChests_51 : decode cX2_areInTheirChests 51 = .ok (.iconst 1, 1) := dk_4 (dk_at dksX2_areInTheirChests_2 4 rfl rfl)
theorem dX2_areInTheirChests_52 : decode cX2_areInTheirChests 52 = .ok (.goto 4, 3) := dk_167 0 4 (dk_at dksX2_areInTheirChests_2 5 rfl rfl)
theorem dX2_areInTheirChests_55 : decode cX2_areInTheirChests 55 = .ok (.iconst 0, 1) := dk_3 (dk_at dksX2_areInTheirChests_2 8 rfl rfl)
theorem dX2_areInTheirChests_56 : decode cX2_areInTheirChests 56 = .ok (.iand, 1) := dk_126 (dk_at dksX2_areInTheirChests_2 9 rfl rfl)
theorem dX2_areInTheirChests_57 : decode cX2_areInTheirChests 57 = .ok (.istore_n 1, 1) := dk_60 (dk_at dksX2_areInTheirChests_2 10 rfl rfl)
theorem dX2_areInTheirChests_58 : decode cX2_areInTheirChests 58 = .ok (.iinc 5 1, 3) := dk_132 5 1 (dk_at dksX2_areInTheirChests_2 11 rfl rfl)
theorem dX2_areInTheirChests_61 : decode cX2_areInTheirChests 61 = .ok (.goto (-38), 3) := dk_167 255 218 (dk_at dksX2_areInTheirChests_2 14 rfl rfl)
theorem dX2_areInTheirChests_64 : decode cX2_areInTheirChests 64 = .ok (.iinc 2 1, 3) := dk_132 2 1 (dk_at dksX2_areInTheirChests_2 17 rfl rfl)
theorem dX2_areInTheirChests_67 : decode cX2_areInTheirChests 67 = .ok (.goto (-63), 3) := dk_167 255 193 (dk_at dksX2_areInTheirChests_2 20 rfl rfl)
theorem dX2_areInTheirChests_70 : decode cX2_areInTheirChests 70 = .ok (.iload_n 1, 1) := dk_27 (dk_at dksX2_areInTheirChests_2 23 rfl rfl)
theorem dX2_areInTheirChests_71 : decode cX2_areInTheirChests 71 = .ok (.ireturn, 1) := dk_172 (dk_at dksX2_areInTheirChests_3 0 rfl rfl)
abbrev cX2_worthOf : ByteArray := prog_13_method_22_code
def yX2_worthOf : MethodName := ⟨RX2, "worthOf", "(I)I"⟩
def dkwX2_worthOf_1 : List UInt8 := [167, 0, 4, 3, 172]
abbrev dktX2_worthOf_1 : List UInt8 := dkwX2_worthOf_1 ++ []
def dkwX2_worthOf_0 : List UInt8 := [42, 180, 0, 33, 27, 46, 6, 160, 0, 20, 42, 180, 0, 11, 42, 180, 0, 36, 27, 46, 50, 180, 0, 89]
abbrev dktX2_worthOf_0 : List UInt8 := dkwX2_worthOf_0 ++ dktX2_worthOf_1
theorem dksX2_worthOf_0 : cX2_worthOf.data.toList.drop 0 = dktX2_worthOf_0 := by decide +kernel
theorem dksX2_worthOf_1 : cX2_worthOf.data.toList.drop 24 = dktX2_worthOf_1 := dk_seg dksX2_worthOf_0 24 rfl rfl
theorem dX2_worthOf_0 : decode cX2_worthOf 0 = .ok (.aload_n 0, 1) := dk_42 (dk_at dksX2_worthOf_0 0 rfl rfl)
theorem dX2_worthOf_1 : decode cX2_worthOf 1 = .ok (.getfield 33, 3) := dk_180 0 33 (dk_at dksX2_worthOf_0 1 rfl rfl)
theorem dX2_worthOf_4 : decode cX2_worthOf 4 = .ok (.iload_n 1, 1) := dk_27 (dk_at dksX2_worthOf_0 4 rfl rfl)
theorem dX2_worthOf_5 : decode cX2_worthOf 5 = .ok (.iaload, 1) := dk_46 (dk_at dksX2_worthOf_0 5 rfl rfl)
theorem dX2_worthOf_6 : decode cX2_worthOf 6 = .ok (.iconst 3, 1) := dk_6 (dk_at dksX2_worthOf_0 6 rfl rfl)
theorem dX2_worthOf_7 : decode cX2_worthOf 7 = .ok (.if_icmp .ne 20, 3) := dk_160 0 20 (dk_at dksX2_worthOf_0 7 rfl rfl)
theorem dX2_worthOf_10 : decode cX2_worthOf 10 = .ok (.aload_n 0, 1) := dk_42 (dk_at dksX2_worthOf_0 10 rfl rfl)
theorem dX2_worthOf_11 : decode cX2_worthOf 11 = .ok (.getfield 11, 3) := dk_180 0 11 (dk_at dksX2_worthOf_0 11 rfl rfl)
theorem dX2_worthOf_14 : decode cX2_worthOf 14 = .ok (.aload_n 0, 1) := dk_42 (dk_at dksX2_worthOf_0 14 rfl rfl)
theorem dX2_worthOf_15 : decode cX2_worthOf 15 = .ok (.getfield 36, 3) := dk_180 0 36 (dk_at dksX2_worthOf_0 15 rfl rfl)
theorem dX2_worthOf_18 : decode cX2_worthOf 18 = .ok (.iload_n 1, 1) := dk_27 (dk_at dksX2_worthOf_0 18 rfl rfl)
theorem dX2_worthOf_19 : decode cX2_worthOf 19 = .ok (.iaload, 1) := dk_46 (dk_at dksX2_worthOf_0 19 rfl rfl)
theorem dX2_worthOf_20 : decode cX2_worthOf 20 = .ok (.aaload, 1) := dk_50 (dk_at dksX2_worthOf_0 20 rfl rfl)
theorem dX2_worthOf_21 : decode cX2_worthOf 21 = .ok (.getfield 89, 3) := dk_180 0 89 (dk_at dksX2_worthOf_0 21 rfl rfl)
theorem dX2_worthOf_24 : decode cX2_worthOf 24 = .ok (.goto 4, 3) := dk_167 0 4 (dk_at dksX2_worthOf_1 0 rfl rfl)
theorem dX2_worthOf_27 : decode cX2_worthOf 27 = .ok (.iconst 0, 1) := dk_3 (dk_at dksX2_worthOf_1 3 rfl rfl)
theorem dX2_worthOf_28 : decode cX2_worthOf 28 = .ok (.ireturn, 1) := dk_172 (dk_at dksX2_worthOf_1 4 rfl rfl)
abbrev cX2_take : ByteArray := prog_13_method_2_code
def yX2_take : MethodName := ⟨RX2, "take", "(LPloughWills$Will;)V"⟩
def dkwX2_take_6 : List UInt8 := [177]
abbrev dktX2_take_6 : List UInt8 := dkwX2_take_6 ++ []
def dkwX2_take_5 : List UInt8 := [42, 43, 180, 0, 48, 181, 0, 48, 42, 43, 180, 0, 52, 181, 0, 52, 42, 43, 180, 0, 55, 181, 0, 55]
abbrev dktX2_take_5 : List UInt8 := dkwX2_take_5 ++ dktX2_take_6
def dkwX2_take_4 : List UInt8 := [180, 0, 36, 3, 16, 24, 184, 0, 42, 43, 180, 0, 39, 3, 42, 180, 0, 39, 3, 16, 24, 184, 0, 42]
abbrev dktX2_take_4 : List UInt8 := dkwX2_take_4 ++ dktX2_take_5
def dkwX2_take_3 : List UInt8 := [184, 0, 42, 43, 180, 0, 33, 3, 42, 180, 0, 33, 3, 16, 24, 184, 0, 42, 43, 180, 0, 36, 3, 42]
abbrev dktX2_take_3 : List UInt8 := dkwX2_take_3 ++ dktX2_take_4
def dkwX2_take_2 : List UInt8 := [180, 0, 25, 3, 42, 180, 0, 25, 3, 6, 184, 0, 42, 43, 180, 0, 29, 3, 42, 180, 0, 29, 3, 6]
abbrev dktX2_take_2 : List UInt8 := dkwX2_take_2 ++ dktX2_take_3
def dkwX2_take_1 : List UInt8 := [180, 0, 21, 28, 50, 3, 42, 180, 0, 21, 28, 50, 3, 7, 184, 0, 42, 132, 2, 1, 167, 255, 230, 43]
abbrev dktX2_take_1 : List UInt8 := dkwX2_take_1 ++ dktX2_take_2
def dkwX2_take_0 : List UInt8 := [43, 180, 0, 11, 3, 42, 180, 0, 11, 3, 16, 8, 184, 0, 42, 3, 61, 28, 6, 162, 0, 27, 43]
abbrev dktX2_take_0 : List UInt8 := dkwX2_take_0 ++ dktX2_take_1
theorem dksX2_take_0 : cX2_take.data.toList.drop 0 = dktX2_take_0 := by decide +kernel
theorem dksX2_take_1 : cX2_take.data.toList.drop 23 = dktX2_take_1 := dk_seg dksX2_take_0 23 rfl rfl
theorem dksX2_take_2 : cX2_take.data.toList.drop 47 = dktX2_take_2 := dk_seg dksX2_take_1 24 rfl rfl
theorem dksX2_take_3 : cX2_take.data.toList.drop 71 = dktX2_take_3 := dk_seg dksX2_take_2 24 rfl rfl
theorem dksX2_take_4 : cX2_take.data.toList.drop 95 = dktX2_take_4 := dk_seg dksX2_take_3 24 rfl rfl
theorem dksX2_take_5 : cX2_take.data.toList.drop 119 = dktX2_take_5 := dk_seg dksX2_take_4 24 rfl rfl
theorem dksX2_take_6 : cX2_take.data.toList.drop 143 = dktX2_take_6 := dk_seg dksX2_take_5 24 rfl rfl
theorem dX2_take_0 : decode cX2_take 0 = .ok (.aload_n 1, 1) := dk_43 (dk_at dksX2_take_0 0 rfl rfl)
theorem dX2_take_1 : decode cX2_take 1 = .ok (.getfield 11, 3) := dk_180 0 11 (dk_at dksX2_take_0 1 rfl rfl)
theorem dX2_take_4 : decode cX2_take 4 = .ok (.iconst 0, 1) := dk_3 (dk_at dksX2_take_0 4 rfl rfl)
theorem dX2_take_5 : decode cX2_take 5 = .ok (.aload_n 0, 1) := dk_42 (dk_at dksX2_take_0 5 rfl rfl)
theorem dX2_take_6 : decode cX2_take 6 = .ok (.getfield 11, 3) := dk_180 0 11 (dk_at dksX2_take_0 6 rfl rfl)
theorem dX2_take_9 : decode cX2_take 9 = .ok (.iconst 0, 1) := dk_3 (dk_at dksX2_take_0 9 rfl rfl)
theorem dX2_take_10 : decode cX2_take 10 = .ok (.bipush 8, 2) := dk_16 8 (dk_at dksX2_take_0 10 rfl rfl)
theorem dX2_take_12 : decode cX2_take 12 = .ok (.invokestatic 42, 3) := dk_184 0 42 (dk_at dksX2_take_0 12 rfl rfl)
theorem dX2_take_15 : decode cX2_take 15 = .ok (.iconst 0, 1) := dk_3 (dk_at dksX2_take_0 15 rfl rfl)
theorem dX2_take_16 : decode cX2_take 16 = .ok (.istore_n 2, 1) := dk_61 (dk_at dksX2_take_0 16 rfl rfl)
theorem dX2_take_17 : decode cX2_take 17 = .ok (.iload_n 2, 1) := dk_28 (dk_at dksX2_take_0 17 rfl rfl)
theorem dX2_take_18 : decode cX2_take 18 = .ok (.iconst 3, 1) := dk_6 (dk_at dksX2_take_0 18 rfl rfl)
theorem dX2_take_19 : decode cX2_take 19 = .ok (.if_icmp .ge 27, 3) := dk_162 0 27 (dk_at dksX2_take_0 19 rfl rfl)
theorem dX2_take_22 : decode cX2_take 22 = .ok (.aload_n 1, 1) := dk_43 (dk_at dksX2_take_0 22 rfl rfl)
theorem dX2_take_23 : decode cX2_take 23 = .ok (.getfield 21, 3) := dk_180 0 21 (dk_at dksX2_take_1 0 rfl rfl)
theorem dX2_take_26 : decode cX2_take 26 = .ok (.iload_n 2, 1) := dk_28 (dk_at dksX2_take_1 3 rfl rfl)
theorem dX2_take_27 : decode cX2_take 27 = .ok (.aaload, 1) := dk_50 (dk_at dksX2_take_1 4 rfl rfl)
theorem dX2_take_28 : decode cX2_take 28 = .ok (.iconst 0, 1) := dk_3 (dk_at dksX2_take_1 5 rfl rfl)
theorem dX2_take_29 : decode cX2_take 29 = .ok (.aload_n 0, 1) := dk_42 (dk_at dksX2_take_1 6 rfl rfl)
theorem dX2_take_30 : decode cX2_take 30 = .ok (.getfield 21, 3) := dk_180 0 21 (dk_at dksX2_take_1 7 rfl rfl)
theorem dX2_take_33 : decode cX2_take 33 = .ok (.iload_n 2, 1) := dk_28 (dk_at dksX2_take_1 10 rfl rfl)
theorem dX2_take_34 : decode cX2_take 34 = .ok (.aaload, 1) := dk_50 (dk_at dksX2_take_1 11 rfl rfl)
theorem dX2_take_35 : decode cX2_take 35 = .ok (.iconst 0, 1) := dk_3 (dk_at dksX2_take_1 12 rfl rfl)
theorem dX2_take_36 : decode cX2_take 36 = .ok (.iconst 4, 1) := dk_7 (dk_at dksX2_take_1 13 rfl rfl)
theorem dX2_take_37 : decode cX2_take 37 = .ok (.invokestatic 42, 3) := dk_184 0 42 (dk_at dksX2_take_1 14 rfl rfl)
theorem dX2_take_40 : decode cX2_take 40 = .ok (.iinc 2 1, 3) := dk_132 2 1 (dk_at dksX2_take_1 17 rfl rfl)
theorem dX2_take_43 : decode cX2_take 43 = .ok (.goto (-26), 3) := dk_167 255 230 (dk_at dksX2_take_1 20 rfl rfl)
theorem dX2_take_46 : decode cX2_take 46 = .ok (.aload_n 1, 1) := dk_43 (dk_at dksX2_take_1 23 rfl rfl)
theorem dX2_take_47 : decode cX2_take 47 = .ok (.getfield 25, 3) := dk_180 0 25 (dk_at dksX2_take_2 0 rfl rfl)
theorem dX2_take_50 : decode cX2_take 50 = .ok (.iconst 0, 1) := dk_3 (dk_at dksX2_take_2 3 rfl rfl)
theorem dX2_take_51 : decode cX2_take 51 = .ok (.aload_n 0, 1) := dk_42 (dk_at dksX2_take_2 4 rfl rfl)
theorem dX2_take_52 : decode cX2_take 52 = .ok (.getfield 25, 3) := dk_180 0 25 (dk_at dksX2_take_2 5 rfl rfl)
theorem dX2_take_55 : decode cX2_take 55 = .ok (.iconst 0, 1) := dk_3 (dk_at dksX2_take_2 8 rfl rfl)
theorem dX2_take_56 : decode cX2_take 56 = .ok (.iconst 3, 1) := dk_6 (dk_at dksX2_take_2 9 rfl rfl)
theorem dX2_take_57 : decode cX2_take 57 = .ok (.invokestatic 42, 3) := dk_184 0 42 (dk_at dksX2_take_2 10 rfl rfl)
theorem dX2_take_60 : decode cX2_take 60 = .ok (.aload_n 1, 1) := dk_43 (dk_at dksX2_take_2 13 rfl rfl)
theorem dX2_take_61 : decode cX2_take 61 = .ok (.getfield 29, 3) := dk_180 0 29 (dk_at dksX2_take_2 14 rfl rfl)
theorem dX2_take_64 : decode cX2_take 64 = .ok (.iconst 0, 1) := dk_3 (dk_at dksX2_take_2 17 rfl rfl)
theorem dX2_take_65 : decode cX2_take 65 = .ok (.aload_n 0, 1) := dk_42 (dk_at dksX2_take_2 18 rfl rfl)
theorem dX2_take_66 : decode cX2_take 66 = .ok (.getfield 29, 3) := dk_180 0 29 (dk_at dksX2_take_2 19 rfl rfl)
theorem dX2_take_69 : decode cX2_take 69 = .ok (.iconst 0, 1) := dk_3 (dk_at dksX2_take_2 22 rfl rfl)
theorem dX2_take_70 : decode cX2_take 70 = .ok (.iconst 3, 1) := dk_6 (dk_at dksX2_take_2 23 rfl rfl)
theorem dX2_take_71 : decode cX2_take 71 = .ok (.invokestatic 42, 3) := dk_184 0 42 (dk_at dksX2_take_3 0 rfl rfl)
theorem dX2_take_74 : decode cX2_take 74 = .ok (.aload_n 1, 1) := dk_43 (dk_at dksX2_take_3 3 rfl rfl)
theorem dX2_take_75 : decode cX2_take 75 = .ok (.getfield 33, 3) := dk_180 0 33 (dk_at dksX2_take_3 4 rfl rfl)
theorem dX2_take_78 : decode cX2_take 78 = .ok (.iconst 0, 1) := dk_3 (dk_at dksX2_take_3 7 rfl rfl)
theorem dX2_take_79 : decode cX2_take 79 = .ok (.aload_n 0, 1) := dk_42 (dk_at dksX2_take_3 8 rfl rfl)
theorem dX2_take_80 : decode cX2_take 80 = .ok (.getfield 33, 3) := dk_180 0 33 (dk_at dksX2_take_3 9 rfl rfl)
theorem dX2_take_83 : decode cX2_take 83 = .ok (.iconst 0, 1) := dk_3 (dk_at dksX2_take_3 12 rfl rfl)
theorem dX2_take_84 : decode cX2_take 84 = .ok (.bipush 24, 2) := dk_16 24 (dk_at dksX2_take_3 13 rfl rfl)
theorem dX2_take_86 : decode cX2_take 86 = .ok (.invokestatic 42, 3) := dk_184 0 42 (dk_at dksX2_take_3 15 rfl rfl)
theorem dX2_take_89 : decode cX2_take 89 = .ok (.aload_n 1, 1) := dk_43 (dk_at dksX2_take_3 18 rfl rfl)
theorem dX2_take_90 : decode cX2_take 90 = .ok (.getfield 36, 3) := dk_180 0 36 (dk_at dksX2_take_3 19 rfl rfl)
theorem dX2_take_93 : decode cX2_take 93 = .ok (.iconst 0, 1) := dk_3 (dk_at dksX2_take_3 22 rfl rfl)
theorem dX2_take_94 : decode cX2_take 94 = .ok (.aload_n 0, 1) := dk_42 (dk_at dksX2_take_3 23 rfl rfl)
theorem dX2_take_95 : decode cX2_take 95 = .ok (.getfield 36, 3) := dk_180 0 36 (dk_at dksX2_take_4 0 rfl rfl)
theorem dX2_take_98 : decode cX2_take 98 = .ok (.iconst 0, 1) := dk_3 (dk_at dksX2_take_4 3 rfl rfl)
theorem dX2_take_99 : decode cX2_take 99 = .ok (.bipush 24, 2) := dk_16 24 (dk_at dksX2_take_4 4 rfl rfl)
theorem dX2_take_101 : decode cX2_take 101 = .ok (.invokestatic 42, 3) := dk_184 0 42 (dk_at dksX2_take_4 6 rfl rfl)
theorem dX2_take_104 : decode cX2_take 104 = .ok (.aload_n 1, 1) := dk_43 (dk_at dksX2_take_4 9 rfl rfl)
theorem dX2_take_105 : decode cX2_take 105 = .ok (.getfield 39, 3) := dk_180 0 39 (dk_at dksX2_take_4 10 rfl rfl)
theorem dX2_take_108 : decode cX2_take 108 = .ok (.iconst 0, 1) := dk_3 (dk_at dksX2_take_4 13 rfl rfl)
theorem dX2_take_109 : decode cX2_take 109 = .ok (.aload_n 0, 1) := dk_42 (dk_at dksX2_take_4 14 rfl rfl)
theorem dX2_take_110 : decode cX2_take 110 = .ok (.getfield 39, 3) := dk_180 0 39 (dk_at dksX2_take_4 15 rfl rfl)
theorem dX2_take_113 : decode cX2_take 113 = .ok (.iconst 0, 1) := dk_3 (dk_at dksX2_take_4 18 rfl rfl)
theorem dX2_take_114 : decode cX2_take 114 = .ok (.bipush 24, 2) := dk_16 24 (dk_at dksX2_take_4 19 rfl rfl)
theorem dX2_take_116 : decode cX2_take 116 = .ok (.invokestatic 42, 3) := dk_184 0 42 (dk_at dksX2_take_4 21 rfl rfl)
theorem dX2_take_119 : decode cX2_take 119 = .ok (.aload_n 0, 1) := dk_42 (dk_at dksX2_take_5 0 rfl rfl)
theorem dX2_take_120 : decode cX2_take 120 = .ok (.aload_n 1, 1) := dk_43 (dk_at dksX2_take_5 1 rfl rfl)
theorem dX2_take_121 : decode cX2_take 121 = .ok (.getfield 48, 3) := dk_180 0 48 (dk_at dksX2_take_5 2 rfl rfl)
theorem dX2_take_124 : decode cX2_take 124 = .ok (.putfield 48, 3) := dk_181 0 48 (dk_at dksX2_take_5 5 rfl rfl)
theorem dX2_take_127 : decode cX2_take 127 = .ok (.aload_n 0, 1) := dk_42 (dk_at dksX2_take_5 8 rfl rfl)
theorem dX2_take_128 : decode cX2_take 128 = .ok (.aload_n 1, 1) := dk_43 (dk_at dksX2_take_5 9 rfl rfl)
theorem dX2_take_129 : decode cX2_take 129 = .ok (.getfield 52, 3) := dk_180 0 52 (dk_at dksX2_take_5 10 rfl rfl)
theorem dX2_take_132 : decode cX2_take 132 = .ok (.putfield 52, 3) := dk_181 0 52 (dk_at dksX2_take_5 13 rfl rfl)
theorem dX2_take_135 : decode cX2_take 135 = .ok (.aload_n 0, 1) := dk_42 (dk_at dksX2_take_5 16 rfl rfl)
theorem dX2_take_136 : decode cX2_take 136 = .ok (.aload_n 1, 1) := dk_43 (dk_at dksX2_take_5 17 rfl rfl)
theorem dX2_take_137 : decode cX2_take 137 = .ok (.getfield 55, 3) := dk_180 0 55 (dk_at dksX2_take_5 18 rfl rfl)
theorem dX2_take_140 : decode cX2_take 140 = .ok (.putfield 55, 3) := dk_181 0 55 (dk_at dksX2_take_5 21 rfl rfl)
theorem dX2_take_143 : decode cX2_take 143 = .ok (.return_, 1) := dk_177 (dk_at dksX2_take_6 0 rfl rfl)
abbrev cX2_good : ByteArray := prog_13_method_5_code
def yX2_good : MethodName := ⟨RX2, "good", "(II)I"⟩
def dkwX2_good_2 : List UInt8 := [42, 180, 0, 48, 4, 100, 172]
abbrev dktX2_good_2 : List UInt8 := dkwX2_good_2 ++ []
def dkwX2_good_1 : List UInt8 := [42, 180, 0, 48, 42, 180, 0, 48, 27, 28, 184, 0, 69, 83, 42, 89, 180, 0, 48, 4, 96, 181, 0, 48]
abbrev dktX2_good_1 : List UInt8 := dkwX2_good_1 ++ dktX2_good_2
def dkwX2_good_0 : List UInt8 := [42, 180, 0, 48, 16, 8, 160, 0, 7, 4, 167, 0, 4, 3, 4, 16, 8, 184, 0, 65, 42, 180, 0, 11]
abbrev dktX2_good_0 : List UInt8 := dkwX2_good_0 ++ dktX2_good_1
theorem dksX2_good_0 : cX2_good.data.toList.drop 0 = dktX2_good_0 := by decide +kernel
theorem dksX2_good_1 : cX2_good.data.toList.drop 24 = dktX2_good_1 := dk_seg dksX2_good_0 24 rfl rfl
theorem dksX2_good_2 : cX2_good.data.toList.drop 48 = dktX2_good_2 := dk_seg dksX2_good_1 24 rfl rfl
theorem dX2_good_0 : decode cX2_good 0 = .ok (.aload_n 0, 1) := dk_42 (dk_at dksX2_good_0 0 rfl rfl)
theorem dX2_good_1 : decode cX2_good 1 = .ok (.getfield 48, 3) := dk_180 0 48 (dk_at dksX2_good_0 1 rfl rfl)
theorem dX2_good_4 : decode cX2_good 4 = .ok (.bipush 8, 2) := dk_16 8 (dk_at dksX2_good_0 4 rfl rfl)
theorem dX2_good_6 : decode cX2_good 6 = .ok (.if_icmp .ne 7, 3) := dk_160 0 7 (dk_at dksX2_good_0 6 rfl rfl)
theorem dX2_good_9 : decode cX2_good 9 = .ok (.iconst 1, 1) := dk_4 (dk_at dksX2_good_0 9 rfl rfl)
theorem dX2_good_10 : decode cX2_good 10 = .ok (.goto 4, 3) := dk_167 0 4 (dk_at dksX2_good_0 10 rfl rfl)
theorem dX2_good_13 : decode cX2_good 13 = .ok (.iconst 0, 1) := dk_3 (dk_at dksX2_good_0 13 rfl rfl)
theorem dX2_good_14 : decode cX2_good 14 = .ok (.iconst 1, 1) := dk_4 (dk_at dksX2_good_0 14 rfl rfl)
theorem dX2_good_15 : decode cX2_good 15 = .ok (.bipush 8, 2) := dk_16 8 (dk_at dksX2_good_0 15 rfl rfl)
theorem dX2_good_17 : decode cX2_good 17 = .ok (.invokestatic 65, 3) := dk_184 0 65 (dk_at dksX2_good_0 17 rfl rfl)
theorem dX2_good_20 : decode cX2_good 20 = .ok (.aload_n 0, 1) := dk_42 (dk_at dksX2_good_0 20 rfl rfl)
theorem dX2_good_21 : decode cX2_good 21 = .ok (.getfield 11, 3) := dk_180 0 11 (dk_at dksX2_good_0 21 rfl rfl)
theorem dX2_good_24 : decode cX2_good 24 = .ok (.aload_n 0, 1) := dk_42 (dk_at dksX2_good_1 0 rfl rfl)
theorem dX2_good_25 : decode cX2_good 25 = .ok (.getfield 48, 3) := dk_180 0 48 (dk_at dksX2_good_1 1 rfl rfl)
theorem dX2_good_28 : decode cX2_good 28 = .ok (.aload_n 0, 1) := dk_42 (dk_at dksX2_good_1 4 rfl rfl)
theorem dX2_good_29 : decode cX2_good 29 = .ok (.getfield 48, 3) := dk_180 0 48 (dk_at dksX2_good_1 5 rfl rfl)
theorem dX2_good_32 : decode cX2_good 32 = .ok (.iload_n 1, 1) := dk_27 (dk_at dksX2_good_1 8 rfl rfl)
theorem dX2_good_33 : decode cX2_good 33 = .ok (.iload_n 2, 1) := dk_28 (dk_at dksX2_good_1 9 rfl rfl)
theorem dX2_good_34 : decode cX2_good 34 = .ok (.invokestatic 69, 3) := dk_184 0 69 (dk_at dksX2_good_1 10 rfl rfl)
theorem dX2_good_37 : decode cX2_good 37 = .ok (.aastore, 1) := dk_83 (dk_at dksX2_good_1 13 rfl rfl)
theorem dX2_good_38 : decode cX2_good 38 = .ok (.aload_n 0, 1) := dk_42 (dk_at dksX2_good_1 14 rfl rfl)
theorem dX2_good_39 : decode cX2_good 39 = .ok (.dup, 1) := dk_89 (dk_at dksX2_good_1 15 rfl rfl)
theorem dX2_good_40 : decode cX2_good 40 = .ok (.getfield 48, 3) := dk_180 0 48 (dk_at dksX2_good_1 16 rfl rfl)
theorem dX2_good_43 : decode cX2_good 43 = .ok (.iconst 1, 1) := dk_4 (dk_at dksX2_good_1 19 rfl rfl)
theorem dX2_good_44 : decode cX2_good 44 = .ok (.iadd, 1) := dk_96 (dk_at dksX2_good_1 20 rfl rfl)
theorem dX2_good_45 : decode cX2_good 45 = .ok (.putfield 48, 3) := dk_181 0 48 (dk_at dksX2_good_1 21 rfl rfl)
theorem dX2_good_48 : decode cX2_good 48 = .ok (.aload_n 0, 1) := dk_42 (dk_at dksX2_good_2 0 rfl rfl)
theorem dX2_good_49 : decode cX2_good 49 = .ok (.getfield 48, 3) := dk_180 0 48 (dk_at dksX2_good_2 1 rfl rfl)
theorem dX2_good_52 : decode cX2_good 52 = .ok (.iconst 1, 1) := dk_4 (dk_at dksX2_good_2 4 rfl rfl)
theorem dX2_good_53 : decode cX2_good 53 = .ok (.isub, 1) := dk_100 (dk_at dksX2_good_2 5 rfl rfl)
theorem dX2_good_54 : decode cX2_good 54 = .ok (.ireturn, 1) := dk_172 (dk_at dksX2_good_2 6 rfl rfl)
abbrev cX2_isGood : ByteArray := prog_13_method_3_code
def yX2_isGood : MethodName := ⟨RX2, "isGood", "(I)Z"⟩
def dkwX2_isGood_0 : List UInt8 := [27, 3, 42, 180, 0, 48, 4, 100, 184, 0, 58, 172]
abbrev dktX2_isGood_0 : List UInt8 := dkwX2_isGood_0 ++ []
theorem dksX2_isGood_0 : cX2_isGood.data.toList.drop 0 = dktX2_isGood_0 := by decide +kernel
theorem dX2_isGood_0 : decode cX2_isGood 0 = .ok (.iload_n 1, 1) := dk_27 (dk_at dksX2_isGood_0 0 rfl rfl)
theorem dX2_isGood_1 : decode cX2_isGood 1 = .ok (.iconst 0, 1) := dk_3 (dk_at dksX2_isGood_0 1 rfl rfl)
theorem dX2_isGood_2 : decode cX2_isGood 2 = .ok (.aload_n 0, 1) := dk_42 (dk_at dksX2_isGood_0 2 rfl rfl)
theorem dX2_isGood_3 : decode cX2_isGood 3 = .ok (.getfield 48, 3) := dk_180 0 48 (dk_at dksX2_isGood_0 3 rfl rfl)
theorem dX2_isGood_6 : decode cX2_isGood 6 = .ok (.iconst 1, 1) := dk_4 (dk_at dksX2_isGood_0 6 rfl rfl)
theorem dX2_isGood_7 : decode cX2_isGood 7 = .ok (.isub, 1) := dk_100 (dk_at dksX2_isGood_0 7 rfl rfl)
theorem dX2_isGood_8 : decode cX2_isGood 8 = .ok (.invokestatic 58, 3) := dk_184 0 58 (dk_at dksX2_isGood_0 8 rfl rfl)
theorem dX2_isGood_11 : decode cX2_isGood 11 = .ok (.ireturn, 1) := dk_172 (dk_at dksX2_isGood_0 11 rfl rfl)
abbrev cX2_put : ByteArray := prog_13_method_9_code
def yX2_put : MethodName := ⟨RX2, "put", "(II)I"⟩
def dkwX2_put_4 : List UInt8 := [172]
abbrev dktX2_put_4 : List UInt8 := dkwX2_put_4 ++ []
def dkwX2_put_3 : List UInt8 := [167, 0, 4, 3, 8, 21, 4, 184, 0, 65, 42, 180, 0, 21, 28, 50, 21, 4, 45, 83, 21, 4, 4, 96]
abbrev dktX2_put_3 : List UInt8 := dkwX2_put_3 ++ dktX2_put_4
def dkwX2_put_2 : List UInt8 := [159, 0, 7, 4, 167, 0, 4, 3, 16, 6, 21, 4, 184, 0, 65, 21, 4, 7, 160, 0, 7, 4]
abbrev dktX2_put_2 : List UInt8 := dkwX2_put_2 ++ dktX2_put_3
def dkwX2_put_1 : List UInt8 := [3, 7, 45, 180, 0, 62, 184, 0, 65, 42, 28, 182, 0, 82, 54, 4, 42, 27, 182, 0, 85, 2]
abbrev dktX2_put_1 : List UInt8 := dkwX2_put_1 ++ dktX2_put_2
def dkwX2_put_0 : List UInt8 := [42, 180, 0, 11, 27, 50, 78, 42, 180, 0, 21, 28, 50, 45, 184, 0, 78, 154, 0, 7, 4, 167, 0, 4]
abbrev dktX2_put_0 : List UInt8 := dkwX2_put_0 ++ dktX2_put_1
theorem dksX2_put_0 : cX2_put.data.toList.drop 0 = dktX2_put_0 := by decide +kernel
theorem dksX2_put_1 : cX2_put.data.toList.drop 24 = dktX2_put_1 := dk_seg dksX2_put_0 24 rfl rfl
theorem dksX2_put_2 : cX2_put.data.toList.drop 46 = dktX2_put_2 := dk_seg dksX2_put_1 22 rfl rfl
theorem dksX2_put_3 : cX2_put.data.toList.drop 68 = dktX2_put_3 := dk_seg dksX2_put_2 22 rfl rfl
theorem dksX2_put_4 : cX2_put.data.toList.drop 92 = dktX2_put_4 := dk_seg dksX2_put_3 24 rfl rfl
theorem dX2_put_0 : decode cX2_put 0 = .ok (.aload_n 0, 1) := dk_42 (dk_at dksX2_put_0 0 rfl rfl)
theorem dX2_put_1 : decode cX2_put 1 = .ok (.getfield 11, 3) := dk_180 0 11 (dk_at dksX2_put_0 1 rfl rfl)
theorem dX2_put_4 : decode cX2_put 4 = .ok (.iload_n 1, 1) := dk_27 (dk_at dksX2_put_0 4 rfl rfl)
theorem dX2_put_5 : decode cX2_put 5 = .ok (.aaload, 1) := dk_50 (dk_at dksX2_put_0 5 rfl rfl)
theorem dX2_put_6 : decode cX2_put 6 = .ok (.astore_n 3, 1) := dk_78 (dk_at dksX2_put_0 6 rfl rfl)
theorem dX2_put_7 : decode cX2_put 7 = .ok (.aload_n 0, 1) := dk_42 (dk_at dksX2_put_0 7 rfl rfl)
theorem dX2_put_8 : decode cX2_put 8 = .ok (.getfield 21, 3) := dk_180 0 21 (dk_at dksX2_put_0 8 rfl rfl)
theorem dX2_put_11 : decode cX2_put 11 = .ok (.iload_n 2, 1) := dk_28 (dk_at dksX2_put_0 11 rfl rfl)
theorem dX2_put_12 : decode cX2_put 12 = .ok (.aaload, 1) := dk_50 (dk_at dksX2_put_0 12 rfl rfl)
theorem dX2_put_13 : decode cX2_put 13 = .ok (.aload_n 3, 1) := dk_45 (dk_at dksX2_put_0 13 rfl rfl)
theorem dX2_put_14 : decode cX2_put 14 = .ok (.invokestatic 78, 3) := dk_184 0 78 (dk_at dksX2_put_0 14 rfl rfl)
theorem dX2_put_17 : decode cX2_put 17 = .ok (.ifCond .ne 7, 3) := dk_154 0 7 (dk_at dksX2_put_0 17 rfl rfl)
theorem dX2_put_20 : decode cX2_put 20 = .ok (.iconst 1, 1) := dk_4 (dk_at dksX2_put_0 20 rfl rfl)
theorem dX2_put_21 : decode cX2_put 21 = .ok (.goto 4, 3) := dk_167 0 4 (dk_at dksX2_put_0 21 rfl rfl)
theorem dX2_put_24 : decode cX2_put 24 = .ok (.iconst 0, 1) := dk_3 (dk_at dksX2_put_1 0 rfl rfl)
theorem dX2_put_25 : decode cX2_put 25 = .ok (.iconst 4, 1) := dk_7 (dk_at dksX2_put_1 1 rfl rfl)
theorem dX2_put_26 : decode cX2_put 26 = .ok (.aload_n 3, 1) := dk_45 (dk_at dksX2_put_1 2 rfl rfl)
theorem dX2_put_27 : decode cX2_put 27 = .ok (.getfield 62, 3) := dk_180 0 62 (dk_at dksX2_put_1 3 rfl rfl)
theorem dX2_put_30 : decode cX2_put 30 = .ok (.invokestatic 65, 3) := dk_184 0 65 (dk_at dksX2_put_1 6 rfl rfl)
theorem dX2_put_33 : decode cX2_put 33 = .ok (.aload_n 0, 1) := dk_42 (dk_at dksX2_put_1 9 rfl rfl)
theorem dX2_put_34 : decode cX2_put 34 = .ok (.iload_n 2, 1) := dk_28 (dk_at dksX2_put_1 10 rfl rfl)
theorem dX2_put_35 : decode cX2_put 35 = .ok (.invokevirtual 82, 3) := dk_182 0 82 (dk_at dksX2_put_1 11 rfl rfl)
theorem dX2_put_38 : decode cX2_put 38 = .ok (.istore 4, 2) := dk_54 4 (dk_at dksX2_put_1 14 rfl rfl)
theorem dX2_put_40 : decode cX2_put 40 = .ok (.aload_n 0, 1) := dk_42 (dk_at dksX2_put_1 16 rfl rfl)
theorem dX2_put_41 : decode cX2_put 41 = .ok (.iload_n 1, 1) := dk_27 (dk_at dksX2_put_1 17 rfl rfl)
theorem dX2_put_42 : decode cX2_put 42 = .ok (.invokevirtual 85, 3) := dk_182 0 85 (dk_at dksX2_put_1 18 rfl rfl)
theorem dX2_put_45 : decode cX2_put 45 = .ok (.iconst (-1), 1) := dk_2 (dk_at dksX2_put_1 21 rfl rfl)
theorem dX2_put_46 : decode cX2_put 46 = .ok (.if_icmp .eq 7, 3) := dk_159 0 7 (dk_at dksX2_put_2 0 rfl rfl)
theorem dX2_put_49 : decode cX2_put 49 = .ok (.iconst 1, 1) := dk_4 (dk_at dksX2_put_2 3 rfl rfl)
theorem dX2_put_50 : decode cX2_put 50 = .ok (.goto 4, 3) := dk_167 0 4 (dk_at dksX2_put_2 4 rfl rfl)
theorem dX2_put_53 : decode cX2_put 53 = .ok (.iconst 0, 1) := dk_3 (dk_at dksX2_put_2 7 rfl rfl)
theorem dX2_put_54 : decode cX2_put 54 = .ok (.bipush 6, 2) := dk_16 6 (dk_at dksX2_put_2 8 rfl rfl)
theorem dX2_put_56 : decode cX2_put 56 = .ok (.iload 4, 2) := dk_21 4 (dk_at dksX2_put_2 10 rfl rfl)
theorem dX2_put_58 : decode cX2_put 58 = .ok (.invokestatic 65, 3) := dk_184 0 65 (dk_at dksX2_put_2 12 rfl rfl)
theorem dX2_put_61 : decode cX2_put 61 = .ok (.iload 4, 2) := dk_21 4 (dk_at dksX2_put_2 15 rfl rfl)
theorem dX2_put_63 : decode cX2_put 63 = .ok (.iconst 4, 1) := dk_7 (dk_at dksX2_put_2 17 rfl rfl)
theorem dX2_put_64 : decode cX2_put 64 = .ok (.if_icmp .ne 7, 3) := dk_160 0 7 (dk_at dksX2_put_2 18 rfl rfl)
theorem dX2_put_67 : decode cX2_put 67 = .ok (.iconst 1, 1) := dk_4 (dk_at dksX2_put_2 21 rfl rfl)
theorem dX2_put_68 : decode cX2_put 68 = .ok (.goto 4, 3) := dk_167 0 4 (dk_at dksX2_put_3 0 rfl rfl)
theorem dX2_put_71 : decode cX2_put 71 = .ok (.iconst 0, 1) := dk_3 (dk_at dksX2_put_3 3 rfl rfl)
theorem dX2_put_72 : decode cX2_put 72 = .ok (.iconst 5, 1) := dk_8 (dk_at dksX2_put_3 4 rfl rfl)
theorem dX2_put_73 : decode cX2_put 73 = .ok (.iload 4, 2) := dk_21 4 (dk_at dksX2_put_3 5 rfl rfl)
theorem dX2_put_75 : decode cX2_put 75 = .ok (.invokestatic 65, 3) := dk_184 0 65 (dk_at dksX2_put_3 7 rfl rfl)
theorem dX2_put_78 : decode cX2_put 78 = .ok (.aload_n 0, 1) := dk_42 (dk_at dksX2_put_3 10 rfl rfl)
theorem dX2_put_79 : decode cX2_put 79 = .ok (.getfield 21, 3) := dk_180 0 21 (dk_at dksX2_put_3 11 rfl rfl)
theorem dX2_put_82 : decode cX2_put 82 = .ok (.iload_n 2, 1) := dk_28 (dk_at dksX2_put_3 14 rfl rfl)
theorem dX2_put_83 : decode cX2_put 83 = .ok (.aaload, 1) := dk_50 (dk_at dksX2_put_3 15 rfl rfl)
theorem dX2_put_84 : decode cX2_put 84 = .ok (.iload 4, 2) := dk_21 4 (dk_at dksX2_put_3 16 rfl rfl)
theorem dX2_put_86 : decode cX2_put 86 = .ok (.aload_n 3, 1) := dk_45 (dk_at dksX2_put_3 18 rfl rfl)
theorem dX2_put_87 : decode cX2_put 87 = .ok (.aastore, 1) := dk_83 (dk_at dksX2_put_3 19 rfl rfl)
theorem dX2_put_88 : decode cX2_put 88 = .ok (.iload 4, 2) := dk_21 4 (dk_at dksX2_put_3 20 rfl rfl)
theorem dX2_put_90 : decode cX2_put 90 = .ok (.iconst 1, 1) := dk_4 (dk_at dksX2_put_3 22 rfl rfl)
theorem dX2_put_91 : decode cX2_put 91 = .ok (.iadd, 1) := dk_96 (dk_at dksX2_put_3 23 rfl rfl)
theorem dX2_put_92 : decode cX2_put 92 = .ok (.ireturn, 1) := dk_172 (dk_at dksX2_put_4 0 rfl rfl)
abbrev cX2_takes : ByteArray := prog_13_method_8_code
def yX2_takes : MethodName := ⟨RX2, "takes", "([LPloughWills$Good;LPloughWills$Good;)Z"⟩
def dkwX2_takes_0 : List UInt8 := [42, 6, 50, 77, 42, 6, 43, 83, 42, 6, 44, 83, 4, 172, 78, 3, 172]
abbrev dktX2_takes_0 : List UInt8 := dkwX2_takes_0 ++ []
theorem dksX2_takes_0 : cX2_takes.data.toList.drop 0 = dktX2_takes_0 := by decide +kernel
theorem dX2_takes_0 : decode cX2_takes 0 = .ok (.aload_n 0, 1) := dk_42 (dk_at dksX2_takes_0 0 rfl rfl)
theorem dX2_takes_1 : decode cX2_takes 1 = .ok (.iconst 3, 1) := dk_6 (dk_at dksX2_takes_0 1 rfl rfl)
theorem dX2_takes_2 : decode cX2_takes 2 = .ok (.aaload, 1) := dk_50 (dk_at dksX2_takes_0 2 rfl rfl)
theorem dX2_takes_3 : decode cX2_takes 3 = .ok (.astore_n 2, 1) := dk_77 (dk_at dksX2_takes_0 3 rfl rfl)
theorem dX2_takes_4 : decode cX2_takes 4 = .ok (.aload_n 0, 1) := dk_42 (dk_at dksX2_takes_0 4 rfl rfl)
theorem dX2_takes_5 : decode cX2_takes 5 = .ok (.iconst 3, 1) := dk_6 (dk_at dksX2_takes_0 5 rfl rfl)
theorem dX2_takes_6 : decode cX2_takes 6 = .ok (.aload_n 1, 1) := dk_43 (dk_at dksX2_takes_0 6 rfl rfl)
theorem dX2_takes_7 : decode cX2_takes 7 = .ok (.aastore, 1) := dk_83 (dk_at dksX2_takes_0 7 rfl rfl)
theorem dX2_takes_8 : decode cX2_takes 8 = .ok (.aload_n 0, 1) := dk_42 (dk_at dksX2_takes_0 8 rfl rfl)
theorem dX2_takes_9 : decode cX2_takes 9 = .ok (.iconst 3, 1) := dk_6 (dk_at dksX2_takes_0 9 rfl rfl)
theorem dX2_takes_10 : decode cX2_takes 10 = .ok (.aload_n 2, 1) := dk_44 (dk_at dksX2_takes_0 10 rfl rfl)
theorem dX2_takes_11 : decode cX2_takes 11 = .ok (.aastore, 1) := dk_83 (dk_at dksX2_takes_0 11 rfl rfl)
theorem dX2_takes_12 : decode cX2_takes 12 = .ok (.iconst 1, 1) := dk_4 (dk_at dksX2_takes_0 12 rfl rfl)
theorem dX2_takes_13 : decode cX2_takes 13 = .ok (.ireturn, 1) := dk_172 (dk_at dksX2_takes_0 13 rfl rfl)
theorem dX2_takes_14 : decode cX2_takes 14 = .ok (.astore_n 3, 1) := dk_78 (dk_at dksX2_takes_0 14 rfl rfl)
theorem dX2_takes_15 : decode cX2_takes 15 = .ok (.iconst 0, 1) := dk_3 (dk_at dksX2_takes_0 15 rfl rfl)
theorem dX2_takes_16 : decode cX2_takes 16 = .ok (.ireturn, 1) := dk_172 (dk_at dksX2_takes_0 16 rfl rfl)
abbrev cX2_full : ByteArray := prog_13_method_6_code
def yX2_full : MethodName := ⟨RX2, "full", "(I)I"⟩
def dkwX2_full_1 : List UInt8 := [28, 172]
abbrev dktX2_full_1 : List UInt8 := dkwX2_full_1 ++ []
def dkwX2_full_0 : List UInt8 := [3, 61, 28, 7, 162, 0, 20, 42, 180, 0, 21, 27, 50, 28, 50, 198, 0, 9, 132, 2, 1, 167, 255, 237]
abbrev dktX2_full_0 : List UInt8 := dkwX2_full_0 ++ dktX2_full_1
theorem dksX2_full_0 : cX2_full.data.toList.drop 0 = dktX2_full_0 := by decide +kernel
theorem dksX2_full_1 : cX2_full.data.toList.drop 24 = dktX2_full_1 := dk_seg dksX2_full_0 24 rfl rfl
theorem dX2_full_0 : decode cX2_full 0 = .ok (.iconst 0, 1) := dk_3 (dk_at dksX2_full_0 0 rfl rfl)
theorem dX2_full_1 : decode cX2_full 1 = .ok (.istore_n 2, 1) := dk_61 (dk_at dksX2_full_0 1 rfl rfl)
theorem dX2_full_2 : decode cX2_full 2 = .ok (.iload_n 2, 1) := dk_28 (dk_at dksX2_full_0 2 rfl rfl)
theorem dX2_full_3 : decode cX2_full 3 = .ok (.iconst 4, 1) := dk_7 (dk_at dksX2_full_0 3 rfl rfl)
theorem dX2_full_4 : decode cX2_full 4 = .ok (.if_icmp .ge 20, 3) := dk_162 0 20 (dk_at dksX2_full_0 4 rfl rfl)
theorem dX2_full_7 : decode cX2_full 7 = .ok (.aload_n 0, 1) := dk_42 (dk_at dksX2_full_0 7 rfl rfl)
theorem dX2_full_8 : decode cX2_full 8 = .ok (.getfield 21, 3) := dk_180 0 21 (dk_at dksX2_full_0 8 rfl rfl)
theorem dX2_full_11 : decode cX2_full 11 = .ok (.iload_n 1, 1) := dk_27 (dk_at dksX2_full_0 11 rfl rfl)
theorem dX2_full_12 : decode cX2_full 12 = .ok (.aaload, 1) := dk_50 (dk_at dksX2_full_0 12 rfl rfl)
theorem dX2_full_13 : decode cX2_full 13 = .ok (.iload_n 2, 1) := dk_28 (dk_at dksX2_full_0 13 rfl rfl)
theorem dX2_full_14 : decode cX2_full 14 = .ok (.aaload, 1) := dk_50 (dk_at dksX2_full_0 14 rfl rfl)
theorem dX2_full_15 : decode cX2_full 15 = .ok (.ifnull 9, 3) := dk_198 0 9 (dk_at dksX2_full_0 15 rfl rfl)
theorem dX2_full_18 : decode cX2_full 18 = .ok (.iinc 2 1, 3) := dk_132 2 1 (dk_at dksX2_full_0 18 rfl rfl)
theorem dX2_full_21 : decode cX2_full 21 = .ok (.goto (-19), 3) := dk_167 255 237 (dk_at dksX2_full_0 21 rfl rfl)
theorem dX2_full_24 : decode cX2_full 24 = .ok (.iload_n 2, 1) := dk_28 (dk_at dksX2_full_1 0 rfl rfl)
theorem dX2_full_25 : decode cX2_full 25 = .ok (.ireturn, 1) := dk_172 (dk_at dksX2_full_1 1 rfl rfl)
abbrev cX2_placeOf : ByteArray := prog_13_method_7_code
def yX2_placeOf : MethodName := ⟨RX2, "placeOf", "(I)I"⟩
def dkwX2_placeOf_1 : List UInt8 := [180, 0, 11, 27, 50, 166, 0, 5, 29, 172, 132, 3, 1, 167, 255, 234, 2, 172]
abbrev dktX2_placeOf_1 : List UInt8 := dkwX2_placeOf_1 ++ []
def dkwX2_placeOf_0 : List UInt8 := [42, 180, 0, 21, 42, 27, 182, 0, 73, 50, 77, 3, 62, 29, 7, 162, 0, 23, 44, 29, 50, 42]
abbrev dktX2_placeOf_0 : List UInt8 := dkwX2_placeOf_0 ++ dktX2_placeOf_1
theorem dksX2_placeOf_0 : cX2_placeOf.data.toList.drop 0 = dktX2_placeOf_0 := by decide +kernel
theorem dksX2_placeOf_1 : cX2_placeOf.data.toList.drop 22 = dktX2_placeOf_1 := dk_seg dksX2_placeOf_0 22 rfl rfl
theorem dX2_placeOf_0 : decode cX2_placeOf 0 = .ok (.aload_n 0, 1) := dk_42 (dk_at dksX2_placeOf_0 0 rfl rfl)
theorem dX2_placeOf_1 : decode cX2_placeOf 1 = .ok (.getfield 21, 3) := dk_180 0 21 (dk_at dksX2_placeOf_0 1 rfl rfl)
theorem dX2_placeOf_4 : decode cX2_placeOf 4 = .ok (.aload_n 0, 1) := dk_42 (dk_at dksX2_placeOf_0 4 rfl rfl)
theorem dX2_placeOf_5 : decode cX2_placeOf 5 = .ok (.iload_n 1, 1) := dk_27 (dk_at dksX2_placeOf_0 5 rfl rfl)
theorem dX2_placeOf_6 : decode cX2_placeOf 6 = .ok (.invokevirtual 73, 3) := dk_182 0 73 (dk_at dksX2_placeOf_0 6 rfl rfl)
theorem dX2_placeOf_9 : decode cX2_placeOf 9 = .ok (.aaload, 1) := dk_50 (dk_at dksX2_placeOf_0 9 rfl rfl)
theorem dX2_placeOf_10 : decode cX2_placeOf 10 = .ok (.astore_n 2, 1) := dk_77 (dk_at dksX2_placeOf_0 10 rfl rfl)
theorem dX2_placeOf_11 : decode cX2_placeOf 11 = .ok (.iconst 0, 1) := dk_3 (dk_at dksX2_placeOf_0 11 rfl rfl)
theorem dX2_placeOf_12 : decode cX2_placeOf 12 = .ok (.istore_n 3, 1) := dk_62 (dk_at dksX2_placeOf_0 12 rfl rfl)
theorem dX2_placeOf_13 : decode cX2_placeOf 13 = .ok (.iload_n 3, 1) := dk_29 (dk_at dksX2_placeOf_0 13 rfl rfl)
theorem dX2_placeOf_14 : decode cX2_placeOf 14 = .ok (.iconst 4, 1) := dk_7 (dk_at dksX2_placeOf_0 14 rfl rfl)
theorem dX2_placeOf_15 : decode cX2_placeOf 15 = .ok (.if_icmp .ge 23, 3) := dk_162 0 23 (dk_at dksX2_placeOf_0 15 rfl rfl)
theorem dX2_placeOf_18 : decode cX2_placeOf 18 = .ok (.aload_n 2, 1) := dk_44 (dk_at dksX2_placeOf_0 18 rfl rfl)
theorem dX2_placeOf_19 : decode cX2_placeOf 19 = .ok (.iload_n 3, 1) := dk_29 (dk_at dksX2_placeOf_0 19 rfl rfl)
theorem dX2_placeOf_20 : decode cX2_placeOf 20 = .ok (.aaload, 1) := dk_50 (dk_at dksX2_placeOf_0 20 rfl rfl)
theorem dX2_placeOf_21 : decode cX2_placeOf 21 = .ok (.aload_n 0, 1) := dk_42 (dk_at dksX2_placeOf_0 21 rfl rfl)
theorem dX2_placeOf_22 : decode cX2_placeOf 22 = .ok (.getfield 11, 3) := dk_180 0 11 (dk_at dksX2_placeOf_1 0 rfl rfl)
theorem dX2_placeOf_25 : decode cX2_placeOf 25 = .ok (.iload_n 1, 1) := dk_27 (dk_at dksX2_placeOf_1 3 rfl rfl)
theorem dX2_placeOf_26 : decode cX2_placeOf 26 = .ok (.aaload, 1) := dk_50 (dk_at dksX2_placeOf_1 4 rfl rfl)
theorem dX2_placeOf_27 : decode cX2_placeOf 27 = .ok (.if_acmp .ne 5, 3) := dk_166 0 5 (dk_at dksX2_placeOf_1 5 rfl rfl)
theorem dX2_placeOf_30 : decode cX2_placeOf 30 = .ok (.iload_n 3, 1) := dk_29 (dk_at dksX2_placeOf_1 8 rfl rfl)
theorem dX2_placeOf_31 : decode cX2_placeOf 31 = .ok (.ireturn, 1) := dk_172 (dk_at dksX2_placeOf_1 9 rfl rfl)
theorem dX2_placeOf_32 : decode cX2_placeOf 32 = .ok (.iinc 3 1, 3) := dk_132 3 1 (dk_at dksX2_placeOf_1 10 rfl rfl)
theorem dX2_placeOf_35 : decode cX2_placeOf 35 = .ok (.goto (-22), 3) := dk_167 255 234 (dk_at dksX2_placeOf_1 13 rfl rfl)
theorem dX2_placeOf_38 : decode cX2_placeOf 38 = .ok (.iconst (-1), 1) := dk_2 (dk_at dksX2_placeOf_1 16 rfl rfl)
theorem dX2_placeOf_39 : decode cX2_placeOf 39 = .ok (.ireturn, 1) := dk_172 (dk_at dksX2_placeOf_1 17 rfl rfl)
abbrev cX2_takeOut : ByteArray := prog_13_method_10_code
def yX2_takeOut : MethodName := ⟨RX2, "takeOut", "(I)I"⟩
def dkwX2_takeOut_3 : List UInt8 := [180, 0, 21, 28, 50, 6, 1, 83, 42, 28, 182, 0, 82, 172]
abbrev dktX2_takeOut_3 : List UInt8 := dkwX2_takeOut_3 ++ []
def dkwX2_takeOut_2 : List UInt8 := [50, 21, 4, 42, 180, 0, 21, 28, 50, 21, 4, 4, 96, 50, 83, 132, 4, 1, 167, 255, 225, 42]
abbrev dktX2_takeOut_2 : List UInt8 := dkwX2_takeOut_2 ++ dktX2_takeOut_3
def dkwX2_takeOut_1 : List UInt8 := [42, 28, 182, 0, 82, 184, 0, 65, 29, 54, 4, 21, 4, 4, 96, 7, 162, 0, 29, 42, 180, 0, 21, 28]
abbrev dktX2_takeOut_1 : List UInt8 := dkwX2_takeOut_1 ++ dktX2_takeOut_2
def dkwX2_takeOut_0 : List UInt8 := [42, 27, 182, 0, 73, 61, 42, 27, 182, 0, 85, 62, 29, 2, 160, 0, 7, 4, 167, 0, 4, 3, 16, 6]
abbrev dktX2_takeOut_0 : List UInt8 := dkwX2_takeOut_0 ++ dktX2_takeOut_1
theorem dksX2_takeOut_0 : cX2_takeOut.data.toList.drop 0 = dktX2_takeOut_0 := by decide +kernel
theorem dksX2_takeOut_1 : cX2_takeOut.data.toList.drop 24 = dktX2_takeOut_1 := dk_seg dksX2_takeOut_0 24 rfl rfl
theorem dksX2_takeOut_2 : cX2_takeOut.data.toList.drop 48 = dktX2_takeOut_2 := dk_seg dksX2_takeOut_1 24 rfl rfl
theorem dksX2_takeOut_3 : cX2_takeOut.data.toList.drop 70 = dktX2_takeOut_3 := dk_seg dksX2_takeOut_2 22 rfl rfl
theorem dX2_takeOut_0 : decode cX2_takeOut 0 = .ok (.aload_n 0, 1) := dk_42 (dk_at dksX2_takeOut_0 0 rfl rfl)
theorem dX2_takeOut_1 : decode cX2_takeOut 1 = .ok (.iload_n 1, 1) := dk_27 (dk_at dksX2_takeOut_0 1 rfl rfl)
theorem dX2_takeOut_2 : decode cX2_takeOut 2 = .ok (.invokevirtual 73, 3) := dk_182 0 73 (dk_at dksX2_takeOut_0 2 rfl rfl)
theorem dX2_takeOut_5 : decode cX2_takeOut 5 = .ok (.istore_n 2, 1) := dk_61 (dk_at dksX2_takeOut_0 5 rfl rfl)
theorem dX2_takeOut_6 : decode cX2_takeOut 6 = .ok (.aload_n 0, 1) := dk_42 (dk_at dksX2_takeOut_0 6 rfl rfl)
theorem dX2_takeOut_7 : decode cX2_takeOut 7 = .ok (.iload_n 1, 1) := dk_27 (dk_at dksX2_takeOut_0 7 rfl rfl)
theorem dX2_takeOut_8 : decode cX2_takeOut 8 = .ok (.invokevirtual 85, 3) := dk_182 0 85 (dk_at dksX2_takeOut_0 8 rfl rfl)
theorem dX2_takeOut_11 : decode cX2_takeOut 11 = .ok (.istore_n 3, 1) := dk_62 (dk_at dksX2_takeOut_0 11 rfl rfl)
theorem dX2_takeOut_12 : decode cX2_takeOut 12 = .ok (.iload_n 3, 1) := dk_29 (dk_at dksX2_takeOut_0 12 rfl rfl)
theorem dX2_takeOut_13 : decode cX2_takeOut 13 = .ok (.iconst (-1), 1) := dk_2 (dk_at dksX2_takeOut_0 13 rfl rfl)
theorem dX2_takeOut_14 : decode cX2_takeOut 14 = .ok (.if_icmp .ne 7, 3) := dk_160 0 7 (dk_at dksX2_takeOut_0 14 rfl rfl)
theorem dX2_takeOut_17 : decode cX2_takeOut 17 = .ok (.iconst 1, 1) := dk_4 (dk_at dksX2_takeOut_0 17 rfl rfl)
theorem dX2_takeOut_18 : decode cX2_takeOut 18 = .ok (.goto 4, 3) := dk_167 0 4 (dk_at dksX2_takeOut_0 18 rfl rfl)
theorem dX2_takeOut_21 : decode cX2_takeOut 21 = .ok (.iconst 0, 1) := dk_3 (dk_at dksX2_takeOut_0 21 rfl rfl)
theorem dX2_takeOut_22 : decode cX2_takeOut 22 = .ok (.bipush 6, 2) := dk_16 6 (dk_at dksX2_takeOut_0 22 rfl rfl)
theorem dX2_takeOut_24 : decode cX2_takeOut 24 = .ok (.aload_n 0, 1) := dk_42 (dk_at dksX2_takeOut_1 0 rfl rfl)
theorem dX2_takeOut_25 : decode cX2_takeOut 25 = .ok (.iload_n 2, 1) := dk_28 (dk_at dksX2_takeOut_1 1 rfl rfl)
theorem dX2_takeOut_26 : decode cX2_takeOut 26 = .ok (.invokevirtual 82, 3) := dk_182 0 82 (dk_at dksX2_takeOut_1 2 rfl rfl)
theorem dX2_takeOut_29 : decode cX2_takeOut 29 = .ok (.invokestatic 65, 3) := dk_184 0 65 (dk_at dksX2_takeOut_1 5 rfl rfl)
theorem dX2_takeOut_32 : decode cX2_takeOut 32 = .ok (.iload_n 3, 1) := dk_29 (dk_at dksX2_takeOut_1 8 rfl rfl)
theorem dX2_takeOut_33 : decode cX2_takeOut 33 = .ok (.istore 4, 2) := dk_54 4 (dk_at dksX2_takeOut_1 9 rfl rfl)
theorem dX2_takeOut_35 : decode cX2_takeOut 35 = .ok (.iload 4, 2) := dk_21 4 (dk_at dksX2_takeOut_1 11 rfl rfl)
theorem dX2_takeOut_37 : decode cX2_takeOut 37 = .ok (.iconst 1, 1) := dk_4 (dk_at dksX2_takeOut_1 13 rfl rfl)
theorem dX2_takeOut_38 : decode cX2_takeOut 38 = .ok (.iadd, 1) := dk_96 (dk_at dksX2_takeOut_1 14 rfl rfl)
theorem dX2_takeOut_39 : decode cX2_takeOut 39 = .ok (.iconst 4, 1) := dk_7 (dk_at dksX2_takeOut_1 15 rfl rfl)
theorem dX2_takeOut_40 : decode cX2_takeOut 40 = .ok (.if_icmp .ge 29, 3) := dk_162 0 29 (dk_at dksX2_takeOut_1 16 rfl rfl)
theorem dX2_takeOut_43 : decode cX2_takeOut 43 = .ok (.aload_n 0, 1) := dk_42 (dk_at dksX2_takeOut_1 19 rfl rfl)
theorem dX2_takeOut_44 : decode cX2_takeOut 44 = .ok (.getfield 21, 3) := dk_180 0 21 (dk_at dksX2_takeOut_1 20 rfl rfl)
theorem dX2_takeOut_47 : decode cX2_takeOut 47 = .ok (.iload_n 2, 1) := dk_28 (dk_at dksX2_takeOut_1 23 rfl rfl)
theorem dX2_takeOut_48 : decode cX2_takeOut 48 = .ok (.aaload, 1) := dk_50 (dk_at dksX2_takeOut_2 0 rfl rfl)
theorem dX2_takeOut_49 : decode cX2_takeOut 49 = .ok (.iload 4, 2) := dk_21 4 (dk_at dksX2_takeOut_2 1 rfl rfl)
theorem dX2_takeOut_51 : decode cX2_takeOut 51 = .ok (.aload_n 0, 1) := dk_42 (dk_at dksX2_takeOut_2 3 rfl rfl)
theorem dX2_takeOut_52 : decode cX2_takeOut 52 = .ok (.getfield 21, 3) := dk_180 0 21 (dk_at dksX2_takeOut_2 4 rfl rfl)
theorem dX2_takeOut_55 : decode cX2_takeOut 55 = .ok (.iload_n 2, 1) := dk_28 (dk_at dksX2_takeOut_2 7 rfl rfl)
theorem dX2_takeOut_56 : decode cX2_takeOut 56 = .ok (.aaload, 1) := dk_50 (dk_at dksX2_takeOut_2 8 rfl rfl)
theorem dX2_takeOut_57 : decode cX2_takeOut 57 = .ok (.iload 4, 2) := dk_21 4 (dk_at dksX2_takeOut_2 9 rfl rfl)
theorem dX2_takeOut_59 : decode cX2_takeOut 59 = .ok (.iconst 1, 1) := dk_4 (dk_at dksX2_takeOut_2 11 rfl rfl)
theorem dX2_takeOut_60 : decode cX2_takeOut 60 = .ok (.iadd, 1) := dk_96 (dk_at dksX2_takeOut_2 12 rfl rfl)
theorem dX2_takeOut_61 : decode cX2_takeOut 61 = .ok (.aaload, 1) := dk_50 (dk_at dksX2_takeOut_2 13 rfl rfl)
theorem dX2_takeOut_62 : decode cX2_takeOut 62 = .ok (.aastore, 1) := dk_83 (dk_at dksX2_takeOut_2 14 rfl rfl)
theorem dX2_takeOut_63 : decode cX2_takeOut 63 = .ok (.iinc 4 1, 3) := dk_132 4 1 (dk_at dksX2_takeOut_2 15 rfl rfl)
theorem dX2_takeOut_66 : decode cX2_takeOut 66 = .ok (.goto (-31), 3) := dk_167 255 225 (dk_at dksX2_takeOut_2 18 rfl rfl)
theorem dX2_takeOut_69 : decode cX2_takeOut 69 = .ok (.aload_n 0, 1) := dk_42 (dk_at dksX2_takeOut_2 21 rfl rfl)
theorem dX2_takeOut_70 : decode cX2_takeOut 70 = .ok (.getfield 21, 3) := dk_180 0 21 (dk_at dksX2_takeOut_3 0 rfl rfl)
theorem dX2_takeOut_73 : decode cX2_takeOut 73 = .ok (.iload_n 2, 1) := dk_28 (dk_at dksX2_takeOut_3 3 rfl rfl)
theorem dX2_takeOut_74 : decode cX2_takeOut 74 = .ok (.aaload, 1) := dk_50 (dk_at dksX2_takeOut_3 4 rfl rfl)
theorem dX2_takeOut_75 : decode cX2_takeOut 75 = .ok (.iconst 3, 1) := dk_6 (dk_at dksX2_takeOut_3 5 rfl rfl)
theorem dX2_takeOut_76 : decode cX2_takeOut 76 = .ok (.aconst_null, 1) := dk_1 (dk_at dksX2_takeOut_3 6 rfl rfl)
theorem dX2_takeOut_77 : decode cX2_takeOut 77 = .ok (.aastore, 1) := dk_83 (dk_at dksX2_takeOut_3 7 rfl rfl)
theorem dX2_takeOut_78 : decode cX2_takeOut 78 = .ok (.aload_n 0, 1) := dk_42 (dk_at dksX2_takeOut_3 8 rfl rfl)
theorem dX2_takeOut_79 : decode cX2_takeOut 79 = .ok (.iload_n 2, 1) := dk_28 (dk_at dksX2_takeOut_3 9 rfl rfl)
theorem dX2_takeOut_80 : decode cX2_takeOut 80 = .ok (.invokevirtual 82, 3) := dk_182 0 82 (dk_at dksX2_takeOut_3 10 rfl rfl)
theorem dX2_takeOut_83 : decode cX2_takeOut 83 = .ok (.ireturn, 1) := dk_172 (dk_at dksX2_takeOut_3 13 rfl rfl)
abbrev cX2_rate : ByteArray := prog_13_method_11_code
def yX2_rate : MethodName := ⟨RX2, "rate", "(II)I"⟩
def dkwX2_rate_1 : List UInt8 := [180, 0, 29, 27, 28, 79, 42, 180, 0, 25, 27, 28, 134, 18, 88, 110, 81, 29, 172]
abbrev dktX2_rate_1 : List UInt8 := dkwX2_rate_1 ++ []
def dkwX2_rate_0 : List UInt8 := [42, 180, 0, 29, 27, 46, 62, 29, 28, 160, 0, 7, 4, 167, 0, 4, 3, 16, 7, 28, 184, 0, 65, 42]
abbrev dktX2_rate_0 : List UInt8 := dkwX2_rate_0 ++ dktX2_rate_1
theorem dksX2_rate_0 : cX2_rate.data.toList.drop 0 = dktX2_rate_0 := by decide +kernel
theorem dksX2_rate_1 : cX2_rate.data.toList.drop 24 = dktX2_rate_1 := dk_seg dksX2_rate_0 24 rfl rfl
theorem dX2_rate_0 : decode cX2_rate 0 = .ok (.aload_n 0, 1) := dk_42 (dk_at dksX2_rate_0 0 rfl rfl)
theorem dX2_rate_1 : decode cX2_rate 1 = .ok (.getfield 29, 3) := dk_180 0 29 (dk_at dksX2_rate_0 1 rfl rfl)
theorem dX2_rate_4 : decode cX2_rate 4 = .ok (.iload_n 1, 1) := dk_27 (dk_at dksX2_rate_0 4 rfl rfl)
theorem dX2_rate_5 : decode cX2_rate 5 = .ok (.iaload, 1) := dk_46 (dk_at dksX2_rate_0 5 rfl rfl)
theorem dX2_rate_6 : decode cX2_rate 6 = .ok (.istore_n 3, 1) := dk_62 (dk_at dksX2_rate_0 6 rfl rfl)
theorem dX2_rate_7 : decode cX2_rate 7 = .ok (.iload_n 3, 1) := dk_29 (dk_at dksX2_rate_0 7 rfl rfl)
theorem dX2_rate_8 : decode cX2_rate 8 = .ok (.iload_n 2, 1) := dk_28 (dk_at dksX2_rate_0 8 rfl rfl)
theorem dX2_rate_9 : decode cX2_rate 9 = .ok (.if_icmp .ne 7, 3) := dk_160 0 7 (dk_at dksX2_rate_0 9 rfl rfl)
theorem dX2_rate_12 : decode cX2_rate 12 = .ok (.iconst 1, 1) := dk_4 (dk_at dksX2_rate_0 12 rfl rfl)
theorem dX2_rate_13 : decode cX2_rate 13 = .ok (.goto 4, 3) := dk_167 0 4 (dk_at dksX2_rate_0 13 rfl rfl)
theorem dX2_rate_16 : decode cX2_rate 16 = .ok (.iconst 0, 1) := dk_3 (dk_at dksX2_rate_0 16 rfl rfl)
theorem dX2_rate_17 : decode cX2_rate 17 = .ok (.bipush 7, 2) := dk_16 7 (dk_at dksX2_rate_0 17 rfl rfl)
theorem dX2_rate_19 : decode cX2_rate 19 = .ok (.iload_n 2, 1) := dk_28 (dk_at dksX2_rate_0 19 rfl rfl)
theorem dX2_rate_20 : decode cX2_rate 20 = .ok (.invokestatic 65, 3) := dk_184 0 65 (dk_at dksX2_rate_0 20 rfl rfl)
theorem dX2_rate_23 : decode cX2_rate 23 = .ok (.aload_n 0, 1) := dk_42 (dk_at dksX2_rate_0 23 rfl rfl)
theorem dX2_rate_24 : decode cX2_rate 24 = .ok (.getfield 29, 3) := dk_180 0 29 (dk_at dksX2_rate_1 0 rfl rfl)
theorem dX2_rate_27 : decode cX2_rate 27 = .ok (.iload_n 1, 1) := dk_27 (dk_at dksX2_rate_1 3 rfl rfl)
theorem dX2_rate_28 : decode cX2_rate 28 = .ok (.iload_n 2, 1) := dk_28 (dk_at dksX2_rate_1 4 rfl rfl)
theorem dX2_rate_29 : decode cX2_rate 29 = .ok (.iastore, 1) := dk_79 (dk_at dksX2_rate_1 5 rfl rfl)
theorem dX2_rate_30 : decode cX2_rate 30 = .ok (.aload_n 0, 1) := dk_42 (dk_at dksX2_rate_1 6 rfl rfl)
theorem dX2_rate_31 : decode cX2_rate 31 = .ok (.getfield 25, 3) := dk_180 0 25 (dk_at dksX2_rate_1 7 rfl rfl)
theorem dX2_rate_34 : decode cX2_rate 34 = .ok (.iload_n 1, 1) := dk_27 (dk_at dksX2_rate_1 10 rfl rfl)
theorem dX2_rate_35 : decode cX2_rate 35 = .ok (.iload_n 2, 1) := dk_28 (dk_at dksX2_rate_1 11 rfl rfl)
theorem dX2_rate_36 : decode cX2_rate 36 = .ok (.i2f, 1) := dk_134 (dk_at dksX2_rate_1 12 rfl rfl)
theorem dX2_rate_37 : decode cX2_rate 37 = .ok (.ldc 88, 2) := dk_18 88 (dk_at dksX2_rate_1 13 rfl rfl)
theorem dX2_rate_39 : decode cX2_rate 39 = .ok (.fdiv, 1) := dk_110 (dk_at dksX2_rate_1 15 rfl rfl)
theorem dX2_rate_40 : decode cX2_rate 40 = .ok (.fastore, 1) := dk_81 (dk_at dksX2_rate_1 16 rfl rfl)
theorem dX2_rate_41 : decode cX2_rate 41 = .ok (.iload_n 3, 1) := dk_29 (dk_at dksX2_rate_1 17 rfl rfl)
theorem dX2_rate_42 : decode cX2_rate 42 = .ok (.ireturn, 1) := dk_172 (dk_at dksX2_rate_1 18 rfl rfl)
abbrev cX2_withSort : ByteArray := prog_13_method_18_code
def yX2_withSort : MethodName := ⟨RX2, "withSort", "(IIIZ)I"⟩
def dkwX2_withSort_3 : List UInt8 := [21, 5, 172]
abbrev dktX2_withSort_3 : List UInt8 := dkwX2_withSort_3 ++ []
def dkwX2_withSort_2 : List UInt8 := [180, 0, 36, 21, 6, 46, 29, 160, 0, 7, 4, 167, 0, 4, 3, 96, 54, 5, 132, 6, 1, 167, 255, 193]
abbrev dktX2_withSort_2 : List UInt8 := dkwX2_withSort_2 ++ dktX2_withSort_3
def dkwX2_withSort_1 : List UInt8 := [27, 28, 184, 0, 58, 153, 0, 33, 21, 4, 153, 0, 13, 42, 180, 0, 39, 21, 6, 46, 167, 0, 10, 42]
abbrev dktX2_withSort_1 : List UInt8 := dkwX2_withSort_1 ++ dktX2_withSort_2
def dkwX2_withSort_0 : List UInt8 := [3, 54, 5, 3, 54, 6, 21, 6, 42, 180, 0, 52, 162, 0, 60, 21, 5, 42, 180, 0, 33, 21, 6, 46]
abbrev dktX2_withSort_0 : List UInt8 := dkwX2_withSort_0 ++ dktX2_withSort_1
theorem dksX2_withSort_0 : cX2_withSort.data.toList.drop 0 = dktX2_withSort_0 := by decide +kernel
theorem dksX2_withSort_1 : cX2_withSort.data.toList.drop 24 = dktX2_withSort_1 := dk_seg dksX2_withSort_0 24 rfl rfl
theorem dksX2_withSort_2 : cX2_withSort.data.toList.drop 48 = dktX2_withSort_2 := dk_seg dksX2_withSort_1 24 rfl rfl
theorem dksX2_withSort_3 : cX2_withSort.data.toList.drop 72 = dktX2_withSort_3 := dk_seg dksX2_withSort_2 24 rfl rfl
theorem dX2_withSort_0 : decode cX2_withSort 0 = .ok (.iconst 0, 1) := dk_3 (dk_at dksX2_withSort_0 0 rfl rfl)
theorem dX2_withSort_1 : decode cX2_withSort 1 = .ok (.istore 5, 2) := dk_54 5 (dk_at dksX2_withSort_0 1 rfl rfl)
theorem dX2_withSort_3 : decode cX2_withSort 3 = .ok (.iconst 0, 1) := dk_3 (dk_at dksX2_withSort_0 3 rfl rfl)
theorem dX2_withSort_4 : decode cX2_withSort 4 = .ok (.istore 6, 2) := dk_54 6 (dk_at dksX2_withSort_0 4 rfl rfl)
theorem dX2_withSort_6 : decode cX2_withSort 6 = .ok (.iload 6, 2) := dk_21 6 (dk_at dksX2_withSort_0 6 rfl rfl)
theorem dX2_withSort_8 : decode cX2_withSort 8 = .ok (.aload_n 0, 1) := dk_42 (dk_at dksX2_withSort_0 8 rfl rfl)
theorem dX2_withSort_9 : decode cX2_withSort 9 = .ok (.getfield 52, 3) := dk_180 0 52 (dk_at dksX2_withSort_0 9 rfl rfl)
theorem dX2_withSort_12 : decode cX2_withSort 12 = .ok (.if_icmp .ge 60, 3) := dk_162 0 60 (dk_at dksX2_withSort_0 12 rfl rfl)
theorem dX2_withSort_15 : decode cX2_withSort 15 = .ok (.iload 5, 2) := dk_21 5 (dk_at dksX2_withSort_0 15 rfl rfl)
theorem dX2_withSort_17 : decode cX2_withSort 17 = .ok (.aload_n 0, 1) := dk_42 (dk_at dksX2_withSort_0 17 rfl rfl)
theorem dX2_withSort_18 : decode cX2_withSort 18 = .ok (.getfield 33, 3) := dk_180 0 33 (dk_at dksX2_withSort_0 18 rfl rfl)
theorem dX2_withSort_21 : decode cX2_withSort 21 = .ok (.iload 6, 2) := dk_21 6 (dk_at dksX2_withSort_0 21 rfl rfl)
theorem dX2_withSort_23 : decode cX2_withSort 23 = .ok (.iaload, 1) := dk_46 (dk_at dksX2_withSort_0 23 rfl rfl)
theorem dX2_withSort_24 : decode cX2_withSort 24 = .ok (.iload_n 1, 1) := dk_27 (dk_at dksX2_withSort_1 0 rfl rfl)
theorem dX2_withSort_25 : decode cX2_withSort 25 = .ok (.iload_n 2, 1) := dk_28 (dk_at dksX2_withSort_1 1 rfl rfl)
theorem dX2_withSort_26 : decode cX2_withSort 26 = .ok (.invokestatic 58, 3) := dk_184 0 58 (dk_at dksX2_withSort_1 2 rfl rfl)
theorem dX2_withSort_29 : decode cX2_withSort 29 = .ok (.ifCond .eq 33, 3) := dk_153 0 33 (dk_at dksX2_withSort_1 5 rfl rfl)
theorem dX2_withSort_32 : decode cX2_withSort 32 = .ok (.iload 4, 2) := dk_21 4 (dk_at dksX2_withSort_1 8 rfl rfl)
theorem dX2_withSort_34 : decode cX2_withSort 34 = .ok (.ifCond .eq 13, 3) := dk_153 0 13 (dk_at dksX2_withSort_1 10 rfl rfl)
theorem dX2_withSort_37 : decode cX2_withSort 37 = .ok (.aload_n 0, 1) := dk_42 (dk_at dksX2_withSort_1 13 rfl rfl)
theorem dX2_withSort_38 : decode cX2_withSort 38 = .ok (.getfield 39, 3) := dk_180 0 39 (dk_at dksX2_withSort_1 14 rfl rfl)
theorem dX2_withSort_41 : decode cX2_withSort 41 = .ok (.iload 6, 2) := dk_21 6 (dk_at dksX2_withSort_1 17 rfl rfl)
theorem dX2_withSort_43 : decode cX2_withSort 43 = .ok (.iaload, 1) := dk_46 (dk_at dksX2_withSort_1 19 rfl rfl)
theorem dX2_withSort_44 : decode cX2_withSort 44 = .ok (.goto 10, 3) := dk_167 0 10 (dk_at dksX2_withSort_1 20 rfl rfl)
theorem dX2_withSort_47 : decode cX2_withSort 47 = .ok (.aload_n 0, 1) := dk_42 (dk_at dksX2_withSort_1 23 rfl rfl)
theorem dX2_withSort_48 : decode cX2_withSort 48 = .ok (.getfield 36, 3) := dk_180 0 36 (dk_at dksX2_withSort_2 0 rfl rfl)
theorem dX2_withSort_51 : decode cX2_withSort 51 = .ok (.iload 6, 2) := dk_21 6 (dk_at dksX2_withSort_2 3 rfl rfl)
theorem dX2_withSort_53 : decode cX2_withSort 53 = .ok (.iaload, 1) := dk_46 (dk_at dksX2_withSort_2 5 rfl rfl)
theorem dX2_withSort_54 : decode cX2_withSort 54 = .ok (.iload_n 3, 1) := dk_29 (dk_at dksX2_withSort_2 6 rfl rfl)
theorem dX2_withSort_55 : decode cX2_withSort 55 = .ok (.if_icmp .ne 7, 3) := dk_160 0 7 (dk_at dksX2_withSort_2 7 rfl rfl)
theorem dX2_withSort_58 : decode cX2_withSort 58 = .ok (.iconst 1, 1) := dk_4 (dk_at dksX2_withSort_2 10 rfl rfl)
theorem dX2_withSort_59 : decode cX2_withSort 59 = .ok (.goto 4, 3) := dk_167 0 4 (dk_at dksX2_withSort_2 11 rfl rfl)
theorem dX2_withSort_62 : decode cX2_withSort 62 = .ok (.iconst 0, 1) := dk_3 (dk_at dksX2_withSort_2 14 rfl rfl)
theorem dX2_withSort_63 : decode cX2_withSort 63 = .ok (.iadd, 1) := dk_96 (dk_at dksX2_withSort_2 15 rfl rfl)
theorem dX2_withSort_64 : decode cX2_withSort 64 = .ok (.istore 5, 2) := dk_54 5 (dk_at dksX2_withSort_2 16 rfl rfl)
theorem dX2_withSort_66 : decode cX2_withSort 66 = .ok (.iinc 6 1, 3) := dk_132 6 1 (dk_at dksX2_withSort_2 18 rfl rfl)
theorem dX2_withSort_69 : decode cX2_withSort 69 = .ok (.goto (-63), 3) := dk_167 255 193 (dk_at dksX2_withSort_2 21 rfl rfl)
theorem dX2_withSort_72 : decode cX2_withSort 72 = .ok (.iload 5, 2) := dk_21 5 (dk_at dksX2_withSort_3 0 rfl rfl)
theorem dX2_withSort_74 : decode cX2_withSort 74 = .ok (.ireturn, 1) := dk_172 (dk_at dksX2_withSort_3 2 rfl rfl)
abbrev cX2_tithe : ByteArray := prog_13_method_12_code
def yX2_tithe : MethodName := ⟨RX2, "tithe", "(I)F"⟩
def dkwX2_tithe_1 : List UInt8 := [180, 0, 25, 42, 27, 182, 0, 73, 48, 106, 174]
abbrev dktX2_tithe_1 : List UInt8 := dkwX2_tithe_1 ++ []
def dkwX2_tithe_0 : List UInt8 := [42, 27, 182, 0, 85, 2, 160, 0, 7, 11, 167, 0, 24, 42, 180, 0, 11, 27, 50, 180, 0, 89, 134, 42]
abbrev dktX2_tithe_0 : List UInt8 := dkwX2_tithe_0 ++ dktX2_tithe_1
theorem dksX2_tithe_0 : cX2_tithe.data.toList.drop 0 = dktX2_tithe_0 := by decide +kernel
theorem dksX2_tithe_1 : cX2_tithe.data.toList.drop 24 = dktX2_tithe_1 := dk_seg dksX2_tithe_0 24 rfl rfl
theorem dX2_tithe_0 : decode cX2_tithe 0 = .ok (.aload_n 0, 1) := dk_42 (dk_at dksX2_tithe_0 0 rfl rfl)
theorem dX2_tithe_1 : decode cX2_tithe 1 = .ok (.iload_n 1, 1) := dk_27 (dk_at dksX2_tithe_0 1 rfl rfl)
theorem dX2_tithe_2 : decode cX2_tithe 2 = .ok (.invokevirtual 85, 3) := dk_182 0 85 (dk_at dksX2_tithe_0 2 rfl rfl)
theorem dX2_tithe_5 : decode cX2_tithe 5 = .ok (.iconst (-1), 1) := dk_2 (dk_at dksX2_tithe_0 5 rfl rfl)
theorem dX2_tithe_6 : decode cX2_tithe 6 = .ok (.if_icmp .ne 7, 3) := dk_160 0 7 (dk_at dksX2_tithe_0 6 rfl rfl)
theorem dX2_tithe_9 : decode cX2_tithe 9 = .ok (.fconst 0, 1) := dk_11 (dk_at dksX2_tithe_0 9 rfl rfl)
theorem dX2_tithe_10 : decode cX2_tithe 10 = .ok (.goto 24, 3) := dk_167 0 24 (dk_at dksX2_tithe_0 10 rfl rfl)
theorem dX2_tithe_13 : decode cX2_tithe 13 = .ok (.aload_n 0, 1) := dk_42 (dk_at dksX2_tithe_0 13 rfl rfl)
theorem dX2_tithe_14 : decode cX2_tithe 14 = .ok (.getfield 11, 3) := dk_180 0 11 (dk_at dksX2_tithe_0 14 rfl rfl)
theorem dX2_tithe_17 : decode cX2_tithe 17 = .ok (.iload_n 1, 1) := dk_27 (dk_at dksX2_tithe_0 17 rfl rfl)
theorem dX2_tithe_18 : decode cX2_tithe 18 = .ok (.aaload, 1) := dk_50 (dk_at dksX2_tithe_0 18 rfl rfl)
theorem dX2_tithe_19 : decode cX2_tithe 19 = .ok (.getfield 89, 3) := dk_180 0 89 (dk_at dksX2_tithe_0 19 rfl rfl)
theorem dX2_tithe_22 : decode cX2_tithe 22 = .ok (.i2f, 1) := dk_134 (dk_at dksX2_tithe_0 22 rfl rfl)
theorem dX2_tithe_23 : decode cX2_tithe 23 = .ok (.aload_n 0, 1) := dk_42 (dk_at dksX2_tithe_0 23 rfl rfl)
theorem dX2_tithe_24 : decode cX2_tithe 24 = .ok (.getfield 25, 3) := dk_180 0 25 (dk_at dksX2_tithe_1 0 rfl rfl)
theorem dX2_tithe_27 : decode cX2_tithe 27 = .ok (.aload_n 0, 1) := dk_42 (dk_at dksX2_tithe_1 3 rfl rfl)
theorem dX2_tithe_28 : decode cX2_tithe 28 = .ok (.iload_n 1, 1) := dk_27 (dk_at dksX2_tithe_1 4 rfl rfl)
theorem dX2_tithe_29 : decode cX2_tithe 29 = .ok (.invokevirtual 73, 3) := dk_182 0 73 (dk_at dksX2_tithe_1 5 rfl rfl)
theorem dX2_tithe_32 : decode cX2_tithe 32 = .ok (.faload, 1) := dk_48 (dk_at dksX2_tithe_1 8 rfl rfl)
theorem dX2_tithe_33 : decode cX2_tithe 33 = .ok (.fmul, 1) := dk_106 (dk_at dksX2_tithe_1 9 rfl rfl)
theorem dX2_tithe_34 : decode cX2_tithe 34 = .ok (.freturn, 1) := dk_174 (dk_at dksX2_tithe_1 10 rfl rfl)
abbrev cX2_insert : ByteArray := prog_13_method_15_code
def yX2_insert : MethodName := ⟨RX2, "insert", "(IIII)I"⟩
def dkwX2_insert_4 : List UInt8 := [96, 181, 0, 52, 42, 180, 0, 52, 172]
abbrev dktX2_insert_4 : List UInt8 := dkwX2_insert_4 ++ []
def dkwX2_insert_3 : List UInt8 := [182, 0, 100, 132, 5, 255, 167, 255, 214, 42, 27, 28, 29, 21, 4, 182, 0, 100, 42, 89, 180, 0, 52, 4]
abbrev dktX2_insert_3 : List UInt8 := dkwX2_insert_3 ++ dktX2_insert_4
def dkwX2_insert_2 : List UInt8 := [21, 5, 4, 100, 46, 42, 180, 0, 36, 21, 5, 4, 100, 46, 42, 180, 0, 39, 21, 5, 4, 100, 46]
abbrev dktX2_insert_2 : List UInt8 := dkwX2_insert_2 ++ dktX2_insert_3
def dkwX2_insert_1 : List UInt8 := [16, 25, 184, 0, 65, 42, 180, 0, 52, 54, 5, 21, 5, 27, 164, 0, 42, 42, 21, 5, 42, 180, 0, 33]
abbrev dktX2_insert_1 : List UInt8 := dkwX2_insert_1 ++ dktX2_insert_2
def dkwX2_insert_0 : List UInt8 := [42, 28, 29, 21, 4, 182, 0, 96, 42, 180, 0, 52, 16, 24, 160, 0, 7, 4, 167, 0, 4, 3, 5]
abbrev dktX2_insert_0 : List UInt8 := dkwX2_insert_0 ++ dktX2_insert_1
theorem dksX2_insert_0 : cX2_insert.data.toList.drop 0 = dktX2_insert_0 := by decide +kernel
theorem dksX2_insert_1 : cX2_insert.data.toList.drop 23 = dktX2_insert_1 := dk_seg dksX2_insert_0 23 rfl rfl
theorem dksX2_insert_2 : cX2_insert.data.toList.drop 47 = dktX2_insert_2 := dk_seg dksX2_insert_1 24 rfl rfl
theorem dksX2_insert_3 : cX2_insert.data.toList.drop 70 = dktX2_insert_3 := dk_seg dksX2_insert_2 23 rfl rfl
theorem dksX2_insert_4 : cX2_insert.data.toList.drop 94 = dktX2_insert_4 := dk_seg dksX2_insert_3 24 rfl rfl
theorem dX2_insert_0 : decode cX2_insert 0 = .ok (.aload_n 0, 1) := dk_42 (dk_at dksX2_insert_0 0 rfl rfl)
theorem dX2_insert_1 : decode cX2_insert 1 = .ok (.iload_n 2, 1) := dk_28 (dk_at dksX2_insert_0 1 rfl rfl)
theorem dX2_insert_2 : decode cX2_insert 2 = .ok (.iload_n 3, 1) := dk_29 (dk_at dksX2_insert_0 2 rfl rfl)
theorem dX2_insert_3 : decode cX2_insert 3 = .ok (.iload 4, 2) := dk_21 4 (dk_at dksX2_insert_0 3 rfl rfl)
theorem dX2_insert_5 : decode cX2_insert 5 = .ok (.invokevirtual 96, 3) := dk_182 0 96 (dk_at dksX2_insert_0 5 rfl rfl)
theorem dX2_insert_8 : decode cX2_insert 8 = .ok (.aload_n 0, 1) := dk_42 (dk_at dksX2_insert_0 8 rfl rfl)
theorem dX2_insert_9 : decode cX2_insert 9 = .ok (.getfield 52, 3) := dk_180 0 52 (dk_at dksX2_insert_0 9 rfl rfl)
theorem dX2_insert_12 : decode cX2_insert 12 = .ok (.bipush 24, 2) := dk_16 24 (dk_at dksX2_insert_0 12 rfl rfl)
theorem dX2_insert_14 : decode cX2_insert 14 = .ok (.if_icmp .ne 7, 3) := dk_160 0 7 (dk_at dksX2_insert_0 14 rfl rfl)
theorem dX2_insert_17 : decode cX2_insert 17 = .ok (.iconst 1, 1) := dk_4 (dk_at dksX2_insert_0 17 rfl rfl)
theorem dX2_insert_18 : decode cX2_insert 18 = .ok (.goto 4, 3) := dk_167 0 4 (dk_at dksX2_insert_0 18 rfl rfl)
theorem dX2_insert_21 : decode cX2_insert 21 = .ok (.iconst 0, 1) := dk_3 (dk_at dksX2_insert_0 21 rfl rfl)
theorem dX2_insert_22 : decode cX2_insert 22 = .ok (.iconst 2, 1) := dk_5 (dk_at dksX2_insert_0 22 rfl rfl)
theorem dX2_insert_23 : decode cX2_insert 23 = .ok (.bipush 25, 2) := dk_16 25 (dk_at dksX2_insert_1 0 rfl rfl)
theorem dX2_insert_25 : decode cX2_insert 25 = .ok (.invokestatic 65, 3) := dk_184 0 65 (dk_at dksX2_insert_1 2 rfl rfl)
theorem dX2_insert_28 : decode cX2_insert 28 = .ok (.aload_n 0, 1) := dk_42 (dk_at dksX2_insert_1 5 rfl rfl)
theorem dX2_insert_29 : decode cX2_insert 29 = .ok (.getfield 52, 3) := dk_180 0 52 (dk_at dksX2_insert_1 6 rfl rfl)
theorem dX2_insert_32 : decode cX2_insert 32 = .ok (.istore 5, 2) := dk_54 5 (dk_at dksX2_insert_1 9 rfl rfl)
theorem dX2_insert_34 : decode cX2_insert 34 = .ok (.iload 5, 2) := dk_21 5 (dk_at dksX2_insert_1 11 rfl rfl)
theorem dX2_insert_36 : decode cX2_insert 36 = .ok (.iload_n 1, 1) := dk_27 (dk_at dksX2_insert_1 13 rfl rfl)
theorem dX2_insert_37 : decode cX2_insert 37 = .ok (.if_icmp .le 42, 3) := dk_164 0 42 (dk_at dksX2_insert_1 14 rfl rfl)
theorem dX2_insert_40 : decode cX2_insert 40 = .ok (.aload_n 0, 1) := dk_42 (dk_at dksX2_insert_1 17 rfl rfl)
theorem dX2_insert_41 : decode cX2_insert 41 = .ok (.iload 5, 2) := dk_21 5 (dk_at dksX2_insert_1 18 rfl rfl)
theorem dX2_insert_43 : decode cX2_insert 43 = .ok (.aload_n 0, 1) := dk_42 (dk_at dksX2_insert_1 20 rfl rfl)
theorem dX2_insert_44 : decode cX2_insert 44 = .ok (.getfield 33, 3) := dk_180 0 33 (dk_at dksX2_insert_1 21 rfl rfl)
theorem dX2_insert_47 : decode cX2_insert 47 = .ok (.iload 5, 2) := dk_21 5 (dk_at dksX2_insert_2 0 rfl rfl)
theorem dX2_insert_49 : decode cX2_insert 49 = .ok (.iconst 1, 1) := dk_4 (dk_at dksX2_insert_2 2 rfl rfl)
theorem dX2_insert_50 : decode cX2_insert 50 = .ok (.isub, 1) := dk_100 (dk_at dksX2_insert_2 3 rfl rfl)
theorem dX2_insert_51 : decode cX2_insert 51 = .ok (.iaload, 1) := dk_46 (dk_at dksX2_insert_2 4 rfl rfl)
theorem dX2_insert_52 : decode cX2_insert 52 = .ok (.aload_n 0, 1) := dk_42 (dk_at dksX2_insert_2 5 rfl rfl)
theorem dX2_insert_53 : decode cX2_insert 53 = .ok (.getfield 36, 3) := dk_180 0 36 (dk_at dksX2_insert_2 6 rfl rfl)
theorem dX2_insert_56 : decode cX2_insert 56 = .ok (.iload 5, 2) := dk_21 5 (dk_at dksX2_insert_2 9 rfl rfl)
theorem dX2_insert_58 : decode cX2_insert 58 = .ok (.iconst 1, 1) := dk_4 (dk_at dksX2_insert_2 11 rfl rfl)
theorem dX2_insert_59 : decode cX2_insert 59 = .ok (.isub, 1) := dk_100 (dk_at dksX2_insert_2 12 rfl rfl)
theorem dX2_insert_60 : decode cX2_insert 60 = .ok (.iaload, 1) := dk_46 (dk_at dksX2_insert_2 13 rfl rfl)
theorem dX2_insert_61 : decode cX2_insert 61 = .ok (.aload_n 0, 1) := dk_42 (dk_at dksX2_insert_2 14 rfl rfl)
theorem dX2_insert_62 : decode cX2_insert 62 = .ok (.getfield 39, 3) := dk_180 0 39 (dk_at dksX2_insert_2 15 rfl rfl)
theorem dX2_insert_65 : decode cX2_insert 65 = .ok (.iload 5, 2) := dk_21 5 (dk_at dksX2_insert_2 18 rfl rfl)
theorem dX2_insert_67 : decode cX2_insert 67 = .ok (.iconst 1, 1) := dk_4 (dk_at dksX2_insert_2 20 rfl rfl)
theorem dX2_insert_68 : decode cX2_insert 68 = .ok (.isub, 1) := dk_100 (dk_at dksX2_insert_2 21 rfl rfl)
theorem dX2_insert_69 : decode cX2_insert 69 = .ok (.iaload, 1) := dk_46 (dk_at dksX2_insert_2 22 rfl rfl)
theorem dX2_insert_70 : decode cX2_insert 70 = .ok (.invokevirtual 100, 3) := dk_182 0 100 (dk_at dksX2_insert_3 0 rfl rfl)
theorem dX2_insert_73 : decode cX2_insert 73 = .ok (.iinc 5 (-1), 3) := dk_132 5 255 (dk_at dksX2_insert_3 3 rfl rfl)
theorem dX2_insert_76 : decode cX2_insert 76 = .ok (.goto (-42), 3) := dk_167 255 214 (dk_at dksX2_insert_3 6 rfl rfl)
theorem dX2_insert_79 : decode cX2_insert 79 = .ok (.aload_n 0, 1) := dk_42 (dk_at dksX2_insert_3 9 rfl rfl)
theorem dX2_insert_80 : decode cX2_insert 80 = .ok (.iload_n 1, 1) := dk_27 (dk_at dksX2_insert_3 10 rfl rfl)
theorem dX2_insert_81 : decode cX2_insert 81 = .ok (.iload_n 2, 1) := dk_28 (dk_at dksX2_insert_3 11 rfl rfl)
theorem dX2_insert_82 : decode cX2_insert 82 = .ok (.iload_n 3, 1) := dk_29 (dk_at dksX2_insert_3 12 rfl rfl)
theorem dX2_insert_83 : decode cX2_insert 83 = .ok (.iload 4, 2) := dk_21 4 (dk_at dksX2_insert_3 13 rfl rfl)
theorem dX2_insert_85 : decode cX2_insert 85 = .ok (.invokevirtual 100, 3) := dk_182 0 100 (dk_at dksX2_insert_3 15 rfl rfl)
theorem dX2_insert_88 : decode cX2_insert 88 = .ok (.aload_n 0, 1) := dk_42 (dk_at dksX2_insert_3 18 rfl rfl)
theorem dX2_insert_89 : decode cX2_insert 89 = .ok (.dup, 1) := dk_89 (dk_at dksX2_insert_3 19 rfl rfl)
theorem dX2_insert_90 : decode cX2_insert 90 = .ok (.getfield 52, 3) := dk_180 0 52 (dk_at dksX2_insert_3 20 rfl rfl)
theorem dX2_insert_93 : decode cX2_insert 93 = .ok (.iconst 1, 1) := dk_4 (dk_at dksX2_insert_3 23 rfl rfl)
theorem dX2_insert_94 : decode cX2_insert 94 = .ok (.iadd, 1) := dk_96 (dk_at dksX2_insert_4 0 rfl rfl)
theorem dX2_insert_95 : decode cX2_insert 95 = .ok (.putfield 52, 3) := dk_181 0 52 (dk_at dksX2_insert_4 1 rfl rfl)
theorem dX2_insert_98 : decode cX2_insert 98 = .ok (.aload_n 0, 1) := dk_42 (dk_at dksX2_insert_4 4 rfl rfl)
theorem dX2_insert_99 : decode cX2_insert 99 = .ok (.getfield 52, 3) := dk_180 0 52 (dk_at dksX2_insert_4 5 rfl rfl)
theorem dX2_insert_102 : decode cX2_insert 102 = .ok (.ireturn, 1) := dk_172 (dk_at dksX2_insert_4 8 rfl rfl)
abbrev cX2_checkClause : ByteArray := prog_13_method_13_code
def yX2_checkClause : MethodName := ⟨RX2, "checkClause", "(III)V"⟩
def dkwX2_checkClause_3 : List UInt8 := [154, 0, 7, 4, 167, 0, 4, 3, 6, 29, 184, 0, 65, 177]
abbrev dktX2_checkClause_3 : List UInt8 := dkwX2_checkClause_3 ++ []
def dkwX2_checkClause_2 : List UInt8 := [167, 0, 4, 3, 6, 28, 184, 0, 65, 27, 7, 8, 184, 0, 58, 153, 0, 15, 42, 29, 182, 0, 92]
abbrev dktX2_checkClause_2 : List UInt8 := dkwX2_checkClause_2 ++ dktX2_checkClause_3
def dkwX2_checkClause_1 : List UInt8 := [6, 28, 184, 0, 65, 27, 5, 6, 184, 0, 58, 153, 0, 15, 42, 28, 182, 0, 92, 154, 0, 7, 4]
abbrev dktX2_checkClause_1 : List UInt8 := dkwX2_checkClause_1 ++ dktX2_checkClause_2
def dkwX2_checkClause_0 : List UInt8 := [27, 7, 16, 6, 184, 0, 58, 153, 0, 16, 28, 3, 7, 184, 0, 58, 154, 0, 7, 4, 167, 0, 4, 3]
abbrev dktX2_checkClause_0 : List UInt8 := dkwX2_checkClause_0 ++ dktX2_checkClause_1
theorem dksX2_checkClause_0 : cX2_checkClause.data.toList.drop 0 = dktX2_checkClause_0 := by decide +kernel
theorem dksX2_checkClause_1 : cX2_checkClause.data.toList.drop 24 = dktX2_checkClause_1 := dk_seg dksX2_checkClause_0 24 rfl rfl
theorem dksX2_checkClause_2 : cX2_checkClause.data.toList.drop 47 = dktX2_checkClause_2 := dk_seg dksX2_checkClause_1 23 rfl rfl
theorem dksX2_checkClause_3 : cX2_checkClause.data.toList.drop 70 = dktX2_checkClause_3 := dk_seg dksX2_checkClause_2 23 rfl rfl
theorem dX2_checkClause_0 : decode cX2_checkClause 0 = .ok (.iload_n 1, 1) := dk_27 (dk_at dksX2_checkClause_0 0 rfl rfl)
theorem dX2_checkClause_1 : decode cX2_checkClause 1 = .ok (.iconst 4, 1) := dk_7 (dk_at dksX2_checkClause_0 1 rfl rfl)
theorem dX2_checkClause_2 : decode cX2_checkClause 2 = .ok (.bipush 6, 2) := dk_16 6 (dk_at dksX2_checkClause_0 2 rfl rfl)
theorem dX2_checkClause_4 : decode cX2_checkClause 4 = .ok (.invokestatic 58, 3) := dk_184 0 58 (dk_at dksX2_checkClause_0 4 rfl rfl)
theorem dX2_checkClause_7 : decode cX2_checkClause 7 = .ok (.ifCond .eq 16, 3) := dk_153 0 16 (dk_at dksX2_checkClause_0 7 rfl rfl)
theorem dX2_checkClause_10 : decode cX2_checkClause 10 = .ok (.iload_n 2, 1) := dk_28 (dk_at dksX2_checkClause_0 10 rfl rfl)
theorem dX2_checkClause_11 : decode cX2_checkClause 11 = .ok (.iconst 0, 1) := dk_3 (dk_at dksX2_checkClause_0 11 rfl rfl)
theorem dX2_checkClause_12 : decode cX2_checkClause 12 = .ok (.iconst 4, 1) := dk_7 (dk_at dksX2_checkClause_0 12 rfl rfl)
theorem dX2_checkClause_13 : decode cX2_checkClause 13 = .ok (.invokestatic 58, 3) := dk_184 0 58 (dk_at dksX2_checkClause_0 13 rfl rfl)
theorem dX2_checkClause_16 : decode cX2_checkClause 16 = .ok (.ifCond .ne 7, 3) := dk_154 0 7 (dk_at dksX2_checkClause_0 16 rfl rfl)
theorem dX2_checkClause_19 : decode cX2_checkClause 19 = .ok (.iconst 1, 1) := dk_4 (dk_at dksX2_checkClause_0 19 rfl rfl)
theorem dX2_checkClause_20 : decode cX2_checkClause 20 = .ok (.goto 4, 3) := dk_167 0 4 (dk_at dksX2_checkClause_0 20 rfl rfl)
theorem dX2_checkClause_23 : decode cX2_checkClause 23 = .ok (.iconst 0, 1) := dk_3 (dk_at dksX2_checkClause_0 23 rfl rfl)
theorem dX2_checkClause_24 : decode cX2_checkClause 24 = .ok (.iconst 3, 1) := dk_6 (dk_at dksX2_checkClause_1 0 rfl rfl)
theorem dX2_checkClause_25 : decode cX2_checkClause 25 = .ok (.iload_n 2, 1) := dk_28 (dk_at dksX2_checkClause_1 1 rfl rfl)
theorem dX2_checkClause_26 : decode cX2_checkClause 26 = .ok (.invokestatic 65, 3) := dk_184 0 65 (dk_at dksX2_checkClause_1 2 rfl rfl)
theorem dX2_checkClause_29 : decode cX2_checkClause 29 = .ok (.iload_n 1, 1) := dk_27 (dk_at dksX2_checkClause_1 5 rfl rfl)
theorem dX2_checkClause_30 : decode cX2_checkClause 30 = .ok (.iconst 2, 1) := dk_5 (dk_at dksX2_checkClause_1 6 rfl rfl)
theorem dX2_checkClause_31 : decode cX2_checkClause 31 = .ok (.iconst 3, 1) := dk_6 (dk_at dksX2_checkClause_1 7 rfl rfl)
theorem dX2_checkClause_32 : decode cX2_checkClause 32 = .ok (.invokestatic 58, 3) := dk_184 0 58 (dk_at dksX2_checkClause_1 8 rfl rfl)
theorem dX2_checkClause_35 : decode cX2_checkClause 35 = .ok (.ifCond .eq 15, 3) := dk_153 0 15 (dk_at dksX2_checkClause_1 11 rfl rfl)
theorem dX2_checkClause_38 : decode cX2_checkClause 38 = .ok (.aload_n 0, 1) := dk_42 (dk_at dksX2_checkClause_1 14 rfl rfl)
theorem dX2_checkClause_39 : decode cX2_checkClause 39 = .ok (.iload_n 2, 1) := dk_28 (dk_at dksX2_checkClause_1 15 rfl rfl)
theorem dX2_checkClause_40 : decode cX2_checkClause 40 = .ok (.invokevirtual 92, 3) := dk_182 0 92 (dk_at dksX2_checkClause_1 16 rfl rfl)
theorem dX2_checkClause_43 : decode cX2_checkClause 43 = .ok (.ifCond .ne 7, 3) := dk_154 0 7 (dk_at dksX2_checkClause_1 19 rfl rfl)
theorem dX2_checkClause_46 : decode cX2_checkClause 46 = .ok (.iconst 1, 1) := dk_4 (dk_at dksX2_checkClause_1 22 rfl rfl)
theorem dX2_checkClause_47 : decode cX2_checkClause 47 = .ok (.goto 4, 3) := dk_167 0 4 (dk_at dksX2_checkClause_2 0 rfl rfl)
theorem dX2_checkClause_50 : decode cX2_checkClause 50 = .ok (.iconst 0, 1) := dk_3 (dk_at dksX2_checkClause_2 3 rfl rfl)
theorem dX2_checkClause_51 : decode cX2_checkClause 51 = .ok (.iconst 3, 1) := dk_6 (dk_at dksX2_checkClause_2 4 rfl rfl)
theorem dX2_checkClause_52 : decode cX2_checkClause 52 = .ok (.iload_n 2, 1) := dk_28 (dk_at dksX2_checkClause_2 5 rfl rfl)
theorem dX2_checkClause_53 : decode cX2_checkClause 53 = .ok (.invokestatic 65, 3) := dk_184 0 65 (dk_at dksX2_checkClause_2 6 rfl rfl)
theorem dX2_checkClause_56 : decode cX2_checkClause 56 = .ok (.iload_n 1, 1) := dk_27 (dk_at dksX2_checkClause_2 9 rfl rfl)
theorem dX2_checkClause_57 : decode cX2_checkClause 57 = .ok (.iconst 4, 1) := dk_7 (dk_at dksX2_checkClause_2 10 rfl rfl)
theorem dX2_checkClause_58 : decode cX2_checkClause 58 = .ok (.iconst 5, 1) := dk_8 (dk_at dksX2_checkClause_2 11 rfl rfl)
theorem dX2_checkClause_59 : decode cX2_checkClause 59 = .ok (.invokestatic 58, 3) := dk_184 0 58 (dk_at dksX2_checkClause_2 12 rfl rfl)
theorem dX2_checkClause_62 : decode cX2_checkClause 62 = .ok (.ifCond .eq 15, 3) := dk_153 0 15 (dk_at dksX2_checkClause_2 15 rfl rfl)
theorem dX2_checkClause_65 : decode cX2_checkClause 65 = .ok (.aload_n 0, 1) := dk_42 (dk_at dksX2_checkClause_2 18 rfl rfl)
theorem dX2_checkClause_66 : decode cX2_checkClause 66 = .ok (.iload_n 3, 1) := dk_29 (dk_at dksX2_checkClause_2 19 rfl rfl)
theorem dX2_checkClause_67 : decode cX2_checkClause 67 = .ok (.invokevirtual 92, 3) := dk_182 0 92 (dk_at dksX2_checkClause_2 20 rfl rfl)
theorem dX2_checkClause_70 : decode cX2_checkClause 70 = .ok (.ifCond .ne 7, 3) := dk_154 0 7 (dk_at dksX2_checkClause_3 0 rfl rfl)
theorem dX2_checkClause_73 : decode cX2_checkClause 73 = .ok (.iconst 1, 1) := dk_4 (dk_at dksX2_checkClause_3 3 rfl rfl)
theorem dX2_checkClause_74 : decode cX2_checkClause 74 = .ok (.goto 4, 3) := dk_167 0 4 (dk_at dksX2_checkClause_3 4 rfl rfl)
theorem dX2_checkClause_77 : decode cX2_checkClause 77 = .ok (.iconst 0, 1) := dk_3 (dk_at dksX2_checkClause_3 7 rfl rfl)
theorem dX2_checkClause_78 : decode cX2_checkClause 78 = .ok (.iconst 3, 1) := dk_6 (dk_at dksX2_checkClause_3 8 rfl rfl)
theorem dX2_checkClause_79 : decode cX2_checkClause 79 = .ok (.iload_n 3, 1) := dk_29 (dk_at dksX2_checkClause_3 9 rfl rfl)
theorem dX2_checkClause_80 : decode cX2_checkClause 80 = .ok (.invokestatic 65, 3) := dk_184 0 65 (dk_at dksX2_checkClause_3 10 rfl rfl)
theorem dX2_checkClause_83 : decode cX2_checkClause 83 = .ok (.return_, 1) := dk_177 (dk_at dksX2_checkClause_3 13 rfl rfl)
abbrev cX2_puts : ByteArray := prog_13_method_14_code
def yX2_puts : MethodName := ⟨RX2, "puts", "(IIII)V"⟩
def dkwX2_puts_2 : List UInt8 := [3, 79, 177]
abbrev dktX2_puts_2 : List UInt8 := dkwX2_puts_2 ++ []
def dkwX2_puts_1 : List UInt8 := [167, 0, 4, 3, 79, 42, 180, 0, 39, 27, 28, 7, 8, 184, 0, 58, 153, 0, 8, 21, 4, 167, 0, 4]
abbrev dktX2_puts_1 : List UInt8 := dkwX2_puts_1 ++ dktX2_puts_2
def dkwX2_puts_0 : List UInt8 := [42, 180, 0, 33, 27, 28, 79, 42, 180, 0, 36, 27, 28, 5, 16, 6, 184, 0, 58, 153, 0, 7, 29]
abbrev dktX2_puts_0 : List UInt8 := dkwX2_puts_0 ++ dktX2_puts_1
theorem dksX2_puts_0 : cX2_puts.data.toList.drop 0 = dktX2_puts_0 := by decide +kernel
theorem dksX2_puts_1 : cX2_puts.data.toList.drop 23 = dktX2_puts_1 := dk_seg dksX2_puts_0 23 rfl rfl
theorem dksX2_puts_2 : cX2_puts.data.toList.drop 47 = dktX2_puts_2 := dk_seg dksX2_puts_1 24 rfl rfl
theorem dX2_puts_0 : decode cX2_puts 0 = .ok (.aload_n 0, 1) := dk_42 (dk_at dksX2_puts_0 0 rfl rfl)
theorem dX2_puts_1 : decode cX2_puts 1 = .ok (.getfield 33, 3) := dk_180 0 33 (dk_at dksX2_puts_0 1 rfl rfl)
theorem dX2_puts_4 : decode cX2_puts 4 = .ok (.iload_n 1, 1) := dk_27 (dk_at dksX2_puts_0 4 rfl rfl)
theorem dX2_puts_5 : decode cX2_puts 5 = .ok (.iload_n 2, 1) := dk_28 (dk_at dksX2_puts_0 5 rfl rfl)
theorem dX2_puts_6 : decode cX2_puts 6 = .ok (.iastore, 1) := dk_79 (dk_at dksX2_puts_0 6 rfl rfl)
theorem dX2_puts_7 : decode cX2_puts 7 = .ok (.aload_n 0, 1) := dk_42 (dk_at dksX2_puts_0 7 rfl rfl)
theorem dX2_puts_8 : decode cX2_puts 8 = .ok (.getfield 36, 3) := dk_180 0 36 (dk_at dksX2_puts_0 8 rfl rfl)
theorem dX2_puts_11 : decode cX2_puts 11 = .ok (.iload_n 1, 1) := dk_27 (dk_at dksX2_puts_0 11 rfl rfl)
theorem dX2_puts_12 : decode cX2_puts 12 = .ok (.iload_n 2, 1) := dk_28 (dk_at dksX2_puts_0 12 rfl rfl)
theorem dX2_puts_13 : decode cX2_puts 13 = .ok (.iconst 2, 1) := dk_5 (dk_at dksX2_puts_0 13 rfl rfl)
theorem dX2_puts_14 : decode cX2_puts 14 = .ok (.bipush 6, 2) := dk_16 6 (dk_at dksX2_puts_0 14 rfl rfl)
theorem dX2_puts_16 : decode cX2_puts 16 = .ok (.invokestatic 58, 3) := dk_184 0 58 (dk_at dksX2_puts_0 16 rfl rfl)
theorem dX2_puts_19 : decode cX2_puts 19 = .ok (.ifCond .eq 7, 3) := dk_153 0 7 (dk_at dksX2_puts_0 19 rfl rfl)
theorem dX2_puts_22 : decode cX2_puts 22 = .ok (.iload_n 3, 1) := dk_29 (dk_at dksX2_puts_0 22 rfl rfl)
theorem dX2_puts_23 : decode cX2_puts 23 = .ok (.goto 4, 3) := dk_167 0 4 (dk_at dksX2_puts_1 0 rfl rfl)
theorem dX2_puts_26 : decode cX2_puts 26 = .ok (.iconst 0, 1) := dk_3 (dk_at dksX2_puts_1 3 rfl rfl)
theorem dX2_puts_27 : decode cX2_puts 27 = .ok (.iastore, 1) := dk_79 (dk_at dksX2_puts_1 4 rfl rfl)
theorem dX2_puts_28 : decode cX2_puts 28 = .ok (.aload_n 0, 1) := dk_42 (dk_at dksX2_puts_1 5 rfl rfl)
theorem dX2_puts_29 : decode cX2_puts 29 = .ok (.getfield 39, 3) := dk_180 0 39 (dk_at dksX2_puts_1 6 rfl rfl)
theorem dX2_puts_32 : decode cX2_puts 32 = .ok (.iload_n 1, 1) := dk_27 (dk_at dksX2_puts_1 9 rfl rfl)
theorem dX2_puts_33 : decode cX2_puts 33 = .ok (.iload_n 2, 1) := dk_28 (dk_at dksX2_puts_1 10 rfl rfl)
theorem dX2_puts_34 : decode cX2_puts 34 = .ok (.iconst 4, 1) := dk_7 (dk_at dksX2_puts_1 11 rfl rfl)
theorem dX2_puts_35 : decode cX2_puts 35 = .ok (.iconst 5, 1) := dk_8 (dk_at dksX2_puts_1 12 rfl rfl)
theorem dX2_puts_36 : decode cX2_puts 36 = .ok (.invokestatic 58, 3) := dk_184 0 58 (dk_at dksX2_puts_1 13 rfl rfl)
theorem dX2_puts_39 : decode cX2_puts 39 = .ok (.ifCond .eq 8, 3) := dk_153 0 8 (dk_at dksX2_puts_1 16 rfl rfl)
theorem dX2_puts_42 : decode cX2_puts 42 = .ok (.iload 4, 2) := dk_21 4 (dk_at dksX2_puts_1 19 rfl rfl)
theorem dX2_puts_44 : decode cX2_puts 44 = .ok (.goto 4, 3) := dk_167 0 4 (dk_at dksX2_puts_1 21 rfl rfl)
theorem dX2_puts_47 : decode cX2_puts 47 = .ok (.iconst 0, 1) := dk_3 (dk_at dksX2_puts_2 0 rfl rfl)
theorem dX2_puts_48 : decode cX2_puts 48 = .ok (.iastore, 1) := dk_79 (dk_at dksX2_puts_2 1 rfl rfl)
theorem dX2_puts_49 : decode cX2_puts 49 = .ok (.return_, 1) := dk_177 (dk_at dksX2_puts_2 2 rfl rfl)
abbrev cX2_remove : ByteArray := prog_13_method_16_code
def yX2_remove : MethodName := ⟨RX2, "remove", "(I)I"⟩
def dkwX2_remove_3 : List UInt8 := [182, 0, 100, 28, 172]
abbrev dktX2_remove_3 : List UInt8 := dkwX2_remove_3 ++ []
def dkwX2_remove_2 : List UInt8 := [180, 0, 39, 29, 4, 96, 46, 182, 0, 100, 132, 3, 1, 167, 255, 216, 42, 42, 180, 0, 52, 3, 3, 3]
abbrev dktX2_remove_2 : List UInt8 := dkwX2_remove_2 ++ dktX2_remove_3
def dkwX2_remove_1 : List UInt8 := [162, 0, 38, 42, 29, 42, 180, 0, 33, 29, 4, 96, 46, 42, 180, 0, 36, 29, 4, 96, 46, 42]
abbrev dktX2_remove_1 : List UInt8 := dkwX2_remove_1 ++ dktX2_remove_2
def dkwX2_remove_0 : List UInt8 := [42, 180, 0, 33, 27, 46, 61, 42, 89, 180, 0, 52, 4, 100, 181, 0, 52, 27, 62, 29, 42, 180, 0, 52]
abbrev dktX2_remove_0 : List UInt8 := dkwX2_remove_0 ++ dktX2_remove_1
theorem dksX2_remove_0 : cX2_remove.data.toList.drop 0 = dktX2_remove_0 := by decide +kernel
theorem dksX2_remove_1 : cX2_remove.data.toList.drop 24 = dktX2_remove_1 := dk_seg dksX2_remove_0 24 rfl rfl
theorem dksX2_remove_2 : cX2_remove.data.toList.drop 46 = dktX2_remove_2 := dk_seg dksX2_remove_1 22 rfl rfl
theorem dksX2_remove_3 : cX2_remove.data.toList.drop 70 = dktX2_remove_3 := dk_seg dksX2_remove_2 24 rfl rfl
theorem dX2_remove_0 : decode cX2_remove 0 = .ok (.aload_n 0, 1) := dk_42 (dk_at dksX2_remove_0 0 rfl rfl)
theorem dX2_remove_1 : decode cX2_remove 1 = .ok (.getfield 33, 3) := dk_180 0 33 (dk_at dksX2_remove_0 1 rfl rfl)
theorem dX2_remove_4 : decode cX2_remove 4 = .ok (.iload_n 1, 1) := dk_27 (dk_at dksX2_remove_0 4 rfl rfl)
theorem dX2_remove_5 : decode cX2_remove 5 = .ok (.iaload, 1) := dk_46 (dk_at dksX2_remove_0 5 rfl rfl)
theorem dX2_remove_6 : decode cX2_remove 6 = .ok (.istore_n 2, 1) := dk_61 (dk_at dksX2_remove_0 6 rfl rfl)
theorem dX2_remove_7 : decode cX2_remove 7 = .ok (.aload_n 0, 1) := dk_42 (dk_at dksX2_remove_0 7 rfl rfl)
theorem dX2_remove_8 : decode cX2_remove 8 = .ok (.dup, 1) := dk_89 (dk_at dksX2_remove_0 8 rfl rfl)
theorem dX2_remove_9 : decode cX2_remove 9 = .ok (.getfield 52, 3) := dk_180 0 52 (dk_at dksX2_remove_0 9 rfl rfl)
theorem dX2_remove_12 : decode cX2_remove 12 = .ok (.iconst 1, 1) := dk_4 (dk_at dksX2_remove_0 12 rfl rfl)
theorem dX2_remove_13 : decode cX2_remove 13 = .ok (.isub, 1) := dk_100 (dk_at dksX2_remove_0 13 rfl rfl)
theorem dX2_remove_14 : decode cX2_remove 14 = .ok (.putfield 52, 3) := dk_181 0 52 (dk_at dksX2_remove_0 14 rfl rfl)
theorem dX2_remove_17 : decode cX2_remove 17 = .ok (.iload_n 1, 1) := dk_27 (dk_at dksX2_remove_0 17 rfl rfl)
theorem dX2_remove_18 : decode cX2_remove 18 = .ok (.istore_n 3, 1) := dk_62 (dk_at dksX2_remove_0 18 rfl rfl)
theorem dX2_remove_19 : decode cX2_remove 19 = .ok (.iload_n 3, 1) := dk_29 (dk_at dksX2_remove_0 19 rfl rfl)
theorem dX2_remove_20 : decode cX2_remove 20 = .ok (.aload_n 0, 1) := dk_42 (dk_at dksX2_remove_0 20 rfl rfl)
theorem dX2_remove_21 : decode cX2_remove 21 = .ok (.getfield 52, 3) := dk_180 0 52 (dk_at dksX2_remove_0 21 rfl rfl)
theorem dX2_remove_24 : decode cX2_remove 24 = .ok (.if_icmp .ge 38, 3) := dk_162 0 38 (dk_at dksX2_remove_1 0 rfl rfl)
theorem dX2_remove_27 : decode cX2_remove 27 = .ok (.aload_n 0, 1) := dk_42 (dk_at dksX2_remove_1 3 rfl rfl)
theorem dX2_remove_28 : decode cX2_remove 28 = .ok (.iload_n 3, 1) := dk_29 (dk_at dksX2_remove_1 4 rfl rfl)
theorem dX2_remove_29 : decode cX2_remove 29 = .ok (.aload_n 0, 1) := dk_42 (dk_at dksX2_remove_1 5 rfl rfl)
theorem dX2_remove_30 : decode cX2_remove 30 = .ok (.getfield 33, 3) := dk_180 0 33 (dk_at dksX2_remove_1 6 rfl rfl)
theorem dX2_remove_33 : decode cX2_remove 33 = .ok (.iload_n 3, 1) := dk_29 (dk_at dksX2_remove_1 9 rfl rfl)
theorem dX2_remove_34 : decode cX2_remove 34 = .ok (.iconst 1, 1) := dk_4 (dk_at dksX2_remove_1 10 rfl rfl)
theorem dX2_remove_35 : decode cX2_remove 35 = .ok (.iadd, 1) := dk_96 (dk_at dksX2_remove_1 11 rfl rfl)
theorem dX2_remove_36 : decode cX2_remove 36 = .ok (.iaload, 1) := dk_46 (dk_at dksX2_remove_1 12 rfl rfl)
theorem dX2_remove_37 : decode cX2_remove 37 = .ok (.aload_n 0, 1) := dk_42 (dk_at dksX2_remove_1 13 rfl rfl)
theorem dX2_remove_38 : decode cX2_remove 38 = .ok (.getfield 36, 3) := dk_180 0 36 (dk_at dksX2_remove_1 14 rfl rfl)
theorem dX2_remove_41 : decode cX2_remove 41 = .ok (.iload_n 3, 1) := dk_29 (dk_at dksX2_remove_1 17 rfl rfl)
theorem dX2_remove_42 : decode cX2_remove 42 = .ok (.iconst 1, 1) := dk_4 (dk_at dksX2_remove_1 18 rfl rfl)
theorem dX2_remove_43 : decode cX2_remove 43 = .ok (.iadd, 1) := dk_96 (dk_at dksX2_remove_1 19 rfl rfl)
theorem dX2_remove_44 : decode cX2_remove 44 = .ok (.iaload, 1) := dk_46 (dk_at dksX2_remove_1 20 rfl rfl)
theorem dX2_remove_45 : decode cX2_remove 45 = .ok (.aload_n 0, 1) := dk_42 (dk_at dksX2_remove_1 21 rfl rfl)
theorem dX2_remove_46 : decode cX2_remove 46 = .ok (.getfield 39, 3) := dk_180 0 39 (dk_at dksX2_remove_2 0 rfl rfl)
theorem dX2_remove_49 : decode cX2_remove 49 = .ok (.iload_n 3, 1) := dk_29 (dk_at dksX2_remove_2 3 rfl rfl)
theorem dX2_remove_50 : decode cX2_remove 50 = .ok (.iconst 1, 1) := dk_4 (dk_at dksX2_remove_2 4 rfl rfl)
theorem dX2_remove_51 : decode cX2_remove 51 = .ok (.iadd, 1) := dk_96 (dk_at dksX2_remove_2 5 rfl rfl)
theorem dX2_remove_52 : decode cX2_remove 52 = .ok (.iaload, 1) := dk_46 (dk_at dksX2_remove_2 6 rfl rfl)
theorem dX2_remove_53 : decode cX2_remove 53 = .ok (.invokevirtual 100, 3) := dk_182 0 100 (dk_at dksX2_remove_2 7 rfl rfl)
theorem dX2_remove_56 : decode cX2_remove 56 = .ok (.iinc 3 1, 3) := dk_132 3 1 (dk_at dksX2_remove_2 10 rfl rfl)
theorem dX2_remove_59 : decode cX2_remove 59 = .ok (.goto (-40), 3) := dk_167 255 216 (dk_at dksX2_remove_2 13 rfl rfl)
theorem dX2_remove_62 : decode cX2_remove 62 = .ok (.aload_n 0, 1) := dk_42 (dk_at dksX2_remove_2 16 rfl rfl)
theorem dX2_remove_63 : decode cX2_remove 63 = .ok (.aload_n 0, 1) := dk_42 (dk_at dksX2_remove_2 17 rfl rfl)
theorem dX2_remove_64 : decode cX2_remove 64 = .ok (.getfield 52, 3) := dk_180 0 52 (dk_at dksX2_remove_2 18 rfl rfl)
theorem dX2_remove_67 : decode cX2_remove 67 = .ok (.iconst 0, 1) := dk_3 (dk_at dksX2_remove_2 21 rfl rfl)
theorem dX2_remove_68 : decode cX2_remove 68 = .ok (.iconst 0, 1) := dk_3 (dk_at dksX2_remove_2 22 rfl rfl)
theorem dX2_remove_69 : decode cX2_remove 69 = .ok (.iconst 0, 1) := dk_3 (dk_at dksX2_remove_2 23 rfl rfl)
theorem dX2_remove_70 : decode cX2_remove 70 = .ok (.invokevirtual 100, 3) := dk_182 0 100 (dk_at dksX2_remove_3 0 rfl rfl)
theorem dX2_remove_73 : decode cX2_remove 73 = .ok (.iload_n 2, 1) := dk_28 (dk_at dksX2_remove_3 3 rfl rfl)
theorem dX2_remove_74 : decode cX2_remove 74 = .ok (.ireturn, 1) := dk_172 (dk_at dksX2_remove_3 4 rfl rfl)
abbrev cX2_titheOf : ByteArray := prog_13_method_21_code
def yX2_titheOf : MethodName := ⟨RX2, "titheOf", "(I)F"⟩
def dkwX2_titheOf_0 : List UInt8 := [42, 42, 180, 0, 36, 27, 46, 182, 0, 110, 174]
abbrev dktX2_titheOf_0 : List UInt8 := dkwX2_titheOf_0 ++ []
theorem dksX2_titheOf_0 : cX2_titheOf.data.toList.drop 0 = dktX2_titheOf_0 := by decide +kernel
theorem dX2_titheOf_0 : decode cX2_titheOf 0 = .ok (.aload_n 0, 1) := dk_42 (dk_at dksX2_titheOf_0 0 rfl rfl)
theorem dX2_titheOf_1 : decode cX2_titheOf 1 = .ok (.aload_n 0, 1) := dk_42 (dk_at dksX2_titheOf_0 1 rfl rfl)
theorem dX2_titheOf_2 : decode cX2_titheOf 2 = .ok (.getfield 36, 3) := dk_180 0 36 (dk_at dksX2_titheOf_0 2 rfl rfl)
theorem dX2_titheOf_5 : decode cX2_titheOf 5 = .ok (.iload_n 1, 1) := dk_27 (dk_at dksX2_titheOf_0 5 rfl rfl)
theorem dX2_titheOf_6 : decode cX2_titheOf 6 = .ok (.iaload, 1) := dk_46 (dk_at dksX2_titheOf_0 6 rfl rfl)
theorem dX2_titheOf_7 : decode cX2_titheOf 7 = .ok (.invokevirtual 110, 3) := dk_182 0 110 (dk_at dksX2_titheOf_0 7 rfl rfl)
theorem dX2_titheOf_10 : decode cX2_titheOf 10 = .ok (.freturn, 1) := dk_174 (dk_at dksX2_titheOf_0 10 rfl rfl)
abbrev cX2_reads : ByteArray := prog_13_method_17_code
def yX2_reads : MethodName := ⟨RX2, "reads", "(LPloughWills$Reader;)I"⟩
def dkwX2_reads_5 : List UInt8 := [180, 0, 104, 181, 0, 52, 42, 180, 0, 52, 172]
abbrev dktX2_reads_5 : List UInt8 := dkwX2_reads_5 ++ []
def dkwX2_reads_4 : List UInt8 := [28, 46, 182, 0, 100, 167, 0, 11, 42, 28, 3, 3, 3, 182, 0, 100, 132, 2, 1, 167, 255, 205, 42, 43]
abbrev dktX2_reads_4 : List UInt8 := dkwX2_reads_4 ++ dktX2_reads_5
def dkwX2_reads_3 : List UInt8 := [180, 0, 104, 162, 0, 29, 42, 28, 43, 180, 0, 107, 28, 46, 43, 180, 0, 108, 28, 46, 43, 180, 0, 109]
abbrev dktX2_reads_3 : List UInt8 := dkwX2_reads_3 ++ dktX2_reads_4
def dkwX2_reads_2 : List UInt8 := [180, 0, 109, 28, 46, 182, 0, 96, 132, 2, 1, 167, 255, 223, 3, 61, 28, 16, 24, 162, 0, 51, 28, 43]
abbrev dktX2_reads_2 : List UInt8 := dkwX2_reads_2 ++ dktX2_reads_3
def dkwX2_reads_1 : List UInt8 := [28, 43, 180, 0, 104, 162, 0, 31, 42, 43, 180, 0, 107, 28, 46, 43, 180, 0, 108, 28, 46, 43]
abbrev dktX2_reads_1 : List UInt8 := dkwX2_reads_1 ++ dktX2_reads_2
def dkwX2_reads_0 : List UInt8 := [43, 180, 0, 104, 16, 24, 164, 0, 7, 4, 167, 0, 4, 3, 5, 43, 180, 0, 104, 184, 0, 65, 3, 61]
abbrev dktX2_reads_0 : List UInt8 := dkwX2_reads_0 ++ dktX2_reads_1
theorem dksX2_reads_0 : cX2_reads.data.toList.drop 0 = dktX2_reads_0 := by decide +kernel
theorem dksX2_reads_1 : cX2_reads.data.toList.drop 24 = dktX2_reads_1 := dk_seg dksX2_reads_0 24 rfl rfl
theorem dksX2_reads_2 : cX2_reads.data.toList.drop 46 = dktX2_reads_2 := dk_seg dksX2_reads_1 22 rfl rfl
theorem dksX2_reads_3 : cX2_reads.data.toList.drop 70 = dktX2_reads_3 := dk_seg dksX2_reads_2 24 rfl rfl
theorem dksX2_reads_4 : cX2_reads.data.toList.drop 94 = dktX2_reads_4 := dk_seg dksX2_reads_3 24 rfl rfl
theorem dksX2_reads_5 : cX2_reads.data.toList.drop 118 = dktX2_reads_5 := dk_seg dksX2_reads_4 24 rfl rfl
theorem dX2_reads_0 : decode cX2_reads 0 = .ok (.aload_n 1, 1) := dk_43 (dk_at dksX2_reads_0 0 rfl rfl)
theorem dX2_reads_1 : decode cX2_reads 1 = .ok (.getfield 104, 3) := dk_180 0 104 (dk_at dksX2_reads_0 1 rfl rfl)
theorem dX2_reads_4 : decode cX2_reads 4 = .ok (.bipush 24, 2) := dk_16 24 (dk_at dksX2_reads_0 4 rfl rfl)
theorem dX2_reads_6 : decode cX2_reads 6 = .ok (.if_icmp .le 7, 3) := dk_164 0 7 (dk_at dksX2_reads_0 6 rfl rfl)
theorem dX2_reads_9 : decode cX2_reads 9 = .ok (.iconst 1, 1) := dk_4 (dk_at dksX2_reads_0 9 rfl rfl)
theorem dX2_reads_10 : decode cX2_reads 10 = .ok (.goto 4, 3) := dk_167 0 4 (dk_at dksX2_reads_0 10 rfl rfl)
theorem dX2_reads_13 : decode cX2_reads 13 = .ok (.iconst 0, 1) := dk_3 (dk_at dksX2_reads_0 13 rfl rfl)
theorem dX2_reads_14 : decode cX2_reads 14 = .ok (.iconst 2, 1) := dk_5 (dk_at dksX2_reads_0 14 rfl rfl)
theorem dX2_reads_15 : decode cX2_reads 15 = .ok (.aload_n 1, 1) := dk_43 (dk_at dksX2_reads_0 15 rfl rfl)
theorem dX2_reads_16 : decode cX2_reads 16 = .ok (.getfield 104, 3) := dk_180 0 104 (dk_at dksX2_reads_0 16 rfl rfl)
theorem dX2_reads_19 : decode cX2_reads 19 = .ok (.invokestatic 65, 3) := dk_184 0 65 (dk_at dksX2_reads_0 19 rfl rfl)
theorem dX2_reads_22 : decode cX2_reads 22 = .ok (.iconst 0, 1) := dk_3 (dk_at dksX2_reads_0 22 rfl rfl)
theorem dX2_reads_23 : decode cX2_reads 23 = .ok (.istore_n 2, 1) := dk_61 (dk_at dksX2_reads_0 23 rfl rfl)
theorem dX2_reads_24 : decode cX2_reads 24 = .ok (.iload_n 2, 1) := dk_28 (dk_at dksX2_reads_1 0 rfl rfl)
theorem dX2_reads_25 : decode cX2_reads 25 = .ok (.aload_n 1, 1) := dk_43 (dk_at dksX2_reads_1 1 rfl rfl)
theorem dX2_reads_26 : decode cX2_reads 26 = .ok (.getfield 104, 3) := dk_180 0 104 (dk_at dksX2_reads_1 2 rfl rfl)
theorem dX2_reads_29 : decode cX2_reads 29 = .ok (.if_icmp .ge 31, 3) := dk_162 0 31 (dk_at dksX2_reads_1 5 rfl rfl)
theorem dX2_reads_32 : decode cX2_reads 32 = .ok (.aload_n 0, 1) := dk_42 (dk_at dksX2_reads_1 8 rfl rfl)
theorem dX2_reads_33 : decode cX2_reads 33 = .ok (.aload_n 1, 1) := dk_43 (dk_at dksX2_reads_1 9 rfl rfl)
theorem dX2_reads_34 : decode cX2_reads 34 = .ok (.getfield 107, 3) := dk_180 0 107 (dk_at dksX2_reads_1 10 rfl rfl)
theorem dX2_reads_37 : decode cX2_reads 37 = .ok (.iload_n 2, 1) := dk_28 (dk_at dksX2_reads_1 13 rfl rfl)
theorem dX2_reads_38 : decode cX2_reads 38 = .ok (.iaload, 1) := dk_46 (dk_at dksX2_reads_1 14 rfl rfl)
theorem dX2_reads_39 : decode cX2_reads 39 = .ok (.aload_n 1, 1) := dk_43 (dk_at dksX2_reads_1 15 rfl rfl)
theorem dX2_reads_40 : decode cX2_reads 40 = .ok (.getfield 108, 3) := dk_180 0 108 (dk_at dksX2_reads_1 16 rfl rfl)
theorem dX2_reads_43 : decode cX2_reads 43 = .ok (.iload_n 2, 1) := dk_28 (dk_at dksX2_reads_1 19 rfl rfl)
theorem dX2_reads_44 : decode cX2_reads 44 = .ok (.iaload, 1) := dk_46 (dk_at dksX2_reads_1 20 rfl rfl)
theorem dX2_reads_45 : decode cX2_reads 45 = .ok (.aload_n 1, 1) := dk_43 (dk_at dksX2_reads_1 21 rfl rfl)
theorem dX2_reads_46 : decode cX2_reads 46 = .ok (.getfield 109, 3) := dk_180 0 109 (dk_at dksX2_reads_2 0 rfl rfl)
theorem dX2_reads_49 : decode cX2_reads 49 = .ok (.iload_n 2, 1) := dk_28 (dk_at dksX2_reads_2 3 rfl rfl)
theorem dX2_reads_50 : decode cX2_reads 50 = .ok (.iaload, 1) := dk_46 (dk_at dksX2_reads_2 4 rfl rfl)
theorem dX2_reads_51 : decode cX2_reads 51 = .ok (.invokevirtual 96, 3) := dk_182 0 96 (dk_at dksX2_reads_2 5 rfl rfl)
theorem dX2_reads_54 : decode cX2_reads 54 = .ok (.iinc 2 1, 3) := dk_132 2 1 (dk_at dksX2_reads_2 8 rfl rfl)
theorem dX2_reads_57 : decode cX2_reads 57 = .ok (.goto (-33), 3) := dk_167 255 223 (dk_at dksX2_reads_2 11 rfl rfl)
theorem dX2_reads_60 : decode cX2_reads 60 = .ok (.iconst 0, 1) := dk_3 (dk_at dksX2_reads_2 14 rfl rfl)
theorem dX2_reads_61 : decode cX2_reads 61 = .ok (.istore_n 2, 1) := dk_61 (dk_at dksX2_reads_2 15 rfl rfl)
theorem dX2_reads_62 : decode cX2_reads 62 = .ok (.iload_n 2, 1) := dk_28 (dk_at dksX2_reads_2 16 rfl rfl)
theorem dX2_reads_63 : decode cX2_reads 63 = .ok (.bipush 24, 2) := dk_16 24 (dk_at dksX2_reads_2 17 rfl rfl)
theorem dX2_reads_65 : decode cX2_reads 65 = .ok (.if_icmp .ge 51, 3) := dk_162 0 51 (dk_at dksX2_reads_2 19 rfl rfl)
theorem dX2_reads_68 : decode cX2_reads 68 = .ok (.iload_n 2, 1) := dk_28 (dk_at dksX2_reads_2 22 rfl rfl)
theorem dX2_reads_69 : decode cX2_reads 69 = .ok (.aload_n 1, 1) := dk_43 (dk_at dksX2_reads_2 23 rfl rfl)
theorem dX2_reads_70 : decode cX2_reads 70 = .ok (.getfield 104, 3) := dk_180 0 104 (dk_at dksX2_reads_3 0 rfl rfl)
theorem dX2_reads_73 : decode cX2_reads 73 = .ok (.if_icmp .ge 29, 3) := dk_162 0 29 (dk_at dksX2_reads_3 3 rfl rfl)
theorem dX2_reads_76 : decode cX2_reads 76 = .ok (.aload_n 0, 1) := dk_42 (dk_at dksX2_reads_3 6 rfl rfl)
theorem dX2_reads_77 : decode cX2_reads 77 = .ok (.iload_n 2, 1) := dk_28 (dk_at dksX2_reads_3 7 rfl rfl)
theorem dX2_reads_78 : decode cX2_reads 78 = .ok (.aload_n 1, 1) := dk_43 (dk_at dksX2_reads_3 8 rfl rfl)
theorem dX2_reads_79 : decode cX2_reads 79 = .ok (.getfield 107, 3) := dk_180 0 107 (dk_at dksX2_reads_3 9 rfl rfl)
theorem dX2_reads_82 : decode cX2_reads 82 = .ok (.iload_n 2, 1) := dk_28 (dk_at dksX2_reads_3 12 rfl rfl)
theorem dX2_reads_83 : decode cX2_reads 83 = .ok (.iaload, 1) := dk_46 (dk_at dksX2_reads_3 13 rfl rfl)
theorem dX2_reads_84 : decode cX2_reads 84 = .ok (.aload_n 1, 1) := dk_43 (dk_at dksX2_reads_3 14 rfl rfl)
theorem dX2_reads_85 : decode cX2_reads 85 = .ok (.getfield 108, 3) := dk_180 0 108 (dk_at dksX2_reads_3 15 rfl rfl)
theorem dX2_reads_88 : decode cX2_reads 88 = .ok (.iload_n 2, 1) := dk_28 (dk_at dksX2_reads_3 18 rfl rfl)
theorem dX2_reads_89 : decode cX2_reads 89 = .ok (.iaload, 1) := dk_46 (dk_at dksX2_reads_3 19 rfl rfl)
theorem dX2_reads_90 : decode cX2_reads 90 = .ok (.aload_n 1, 1) := dk_43 (dk_at dksX2_reads_3 20 rfl rfl)
theorem dX2_reads_91 : decode cX2_reads 91 = .ok (.getfield 109, 3) := dk_180 0 109 (dk_at dksX2_reads_3 21 rfl rfl)
theorem dX2_reads_94 : decode cX2_reads 94 = .ok (.iload_n 2, 1) := dk_28 (dk_at dksX2_reads_4 0 rfl rfl)
theorem dX2_reads_95 : decode cX2_reads 95 = .ok (.iaload, 1) := dk_46 (dk_at dksX2_reads_4 1 rfl rfl)
theorem dX2_reads_96 : decode cX2_reads 96 = .ok (.invokevirtual 100, 3) := dk_182 0 100 (dk_at dksX2_reads_4 2 rfl rfl)
theorem dX2_reads_99 : decode cX2_reads 99 = .ok (.goto 11, 3) := dk_167 0 11 (dk_at dksX2_reads_4 5 rfl rfl)
theorem dX2_reads_102 : decode cX2_reads 102 = .ok (.aload_n 0, 1) := dk_42 (dk_at dksX2_reads_4 8 rfl rfl)
theorem dX2_reads_103 : decode cX2_reads 103 = .ok (.iload_n 2, 1) := dk_28 (dk_at dksX2_reads_4 9 rfl rfl)
theorem dX2_reads_104 : decode cX2_reads 104 = .ok (.iconst 0, 1) := dk_3 (dk_at dksX2_reads_4 10 rfl rfl)
theorem dX2_reads_105 : decode cX2_reads 105 = .ok (.iconst 0, 1) := dk_3 (dk_at dksX2_reads_4 11 rfl rfl)
theorem dX2_reads_106 : decode cX2_reads 106 = .ok (.iconst 0, 1) := dk_3 (dk_at dksX2_reads_4 12 rfl rfl)
theorem dX2_reads_107 : decode cX2_reads 107 = .ok (.invokevirtual 100, 3) := dk_182 0 100 (dk_at dksX2_reads_4 13 rfl rfl)
theorem dX2_reads_110 : decode cX2_reads 110 = .ok (.iinc 2 1, 3) := dk_132 2 1 (dk_at dksX2_reads_4 16 rfl rfl)
theorem dX2_reads_113 : decode cX2_reads 113 = .ok (.goto (-51), 3) := dk_167 255 205 (dk_at dksX2_reads_4 19 rfl rfl)
theorem dX2_reads_116 : decode cX2_reads 116 = .ok (.aload_n 0, 1) := dk_42 (dk_at dksX2_reads_4 22 rfl rfl)
theorem dX2_reads_117 : decode cX2_reads 117 = .ok (.aload_n 1, 1) := dk_43 (dk_at dksX2_reads_4 23 rfl rfl)
theorem dX2_reads_118 : decode cX2_reads 118 = .ok (.getfield 104, 3) := dk_180 0 104 (dk_at dksX2_reads_5 0 rfl rfl)
theorem dX2_reads_121 : decode cX2_reads 121 = .ok (.putfield 52, 3) := dk_181 0 52 (dk_at dksX2_reads_5 3 rfl rfl)
theorem dX2_reads_124 : decode cX2_reads 124 = .ok (.aload_n 0, 1) := dk_42 (dk_at dksX2_reads_5 6 rfl rfl)
theorem dX2_reads_125 : decode cX2_reads 125 = .ok (.getfield 52, 3) := dk_180 0 52 (dk_at dksX2_reads_5 7 rfl rfl)
theorem dX2_reads_128 : decode cX2_reads 128 = .ok (.ireturn, 1) := dk_172 (dk_at dksX2_reads_5 10 rfl rfl)
abbrev cX2_choices : ByteArray := prog_13_method_19_code
def yX2_choices : MethodName := ⟨RX2, "choices", "()I"⟩
def dkwX2_choices_1 : List UInt8 := [4, 167, 0, 4, 3, 96, 60, 132, 2, 1, 167, 255, 226, 27, 172]
abbrev dktX2_choices_1 : List UInt8 := dkwX2_choices_1 ++ []
def dkwX2_choices_0 : List UInt8 := [3, 60, 3, 61, 28, 42, 180, 0, 52, 162, 0, 28, 27, 42, 180, 0, 33, 28, 46, 16, 7, 160, 0, 7]
abbrev dktX2_choices_0 : List UInt8 := dkwX2_choices_0 ++ dktX2_choices_1
theorem dksX2_choices_0 : cX2_choices.data.toList.drop 0 = dktX2_choices_0 := by decide +kernel
theorem dksX2_choices_1 : cX2_choices.data.toList.drop 24 = dktX2_choices_1 := dk_seg dksX2_choices_0 24 rfl rfl
theorem dX2_choices_0 : decode cX2_choices 0 = .ok (.iconst 0, 1) := dk_3 (dk_at dksX2_choices_0 0 rfl rfl)
theorem dX2_choices_1 : decode cX2_choices 1 = .ok (.istore_n 1, 1) := dk_60 (dk_at dksX2_choices_0 1 rfl rfl)
theorem dX2_choices_2 : decode cX2_choices 2 = .ok (.iconst 0, 1) := dk_3 (dk_at dksX2_choices_0 2 rfl rfl)
theorem dX2_choices_3 : decode cX2_choices 3 = .ok (.istore_n 2, 1) := dk_61 (dk_at dksX2_choices_0 3 rfl rfl)
theorem dX2_choices_4 : decode cX2_choices 4 = .ok (.iload_n 2, 1) := dk_28 (dk_at dksX2_choices_0 4 rfl rfl)
theorem dX2_choices_5 : decode cX2_choices 5 = .ok (.aload_n 0, 1) := dk_42 (dk_at dksX2_choices_0 5 rfl rfl)
theorem dX2_choices_6 : decode cX2_choices 6 = .ok (.getfield 52, 3) := dk_180 0 52 (dk_at dksX2_choices_0 6 rfl rfl)
theorem dX2_choices_9 : decode cX2_choices 9 = .ok (.if_icmp .ge 28, 3) := dk_162 0 28 (dk_at dksX2_choices_0 9 rfl rfl)
theorem dX2_choices_12 : decode cX2_choices 12 = .ok (.iload_n 1, 1) := dk_27 (dk_at dksX2_choices_0 12 rfl rfl)
theorem dX2_choices_13 : decode cX2_choices 13 = .ok (.aload_n 0, 1) := dk_42 (dk_at dksX2_choices_0 13 rfl rfl)
theorem dX2_choices_14 : decode cX2_choices 14 = .ok (.getfield 33, 3) := dk_180 0 33 (dk_at dksX2_choices_0 14 rfl rfl)
theorem dX2_choices_17 : decode cX2_choices 17 = .ok (.iload_n 2, 1) := dk_28 (dk_at dksX2_choices_0 17 rfl rfl)
theorem dX2_choices_18 : decode cX2_choices 18 = .ok (.iaload, 1) := dk_46 (dk_at dksX2_choices_0 18 rfl rfl)
theorem dX2_choices_19 : decode cX2_choices 19 = .ok (.bipush 7, 2) := dk_16 7 (dk_at dksX2_choices_0 19 rfl rfl)
theorem dX2_choices_21 : decode cX2_choices 21 = .ok (.if_icmp .ne 7, 3) := dk_160 0 7 (dk_at dksX2_choices_0 21 rfl rfl)
theorem dX2_choices_24 : decode cX2_choices 24 = .ok (.iconst 1, 1) := dk_4 (dk_at dksX2_choices_1 0 rfl rfl)
theorem dX2_choices_25 : decode cX2_choices 25 = .ok (.goto 4, 3) := dk_167 0 4 (dk_at dksX2_choices_1 1 rfl rfl)
theorem dX2_choices_28 : decode cX2_choices 28 = .ok (.iconst 0, 1) := dk_3 (dk_at dksX2_choices_1 4 rfl rfl)
theorem dX2_choices_29 : decode cX2_choices 29 = .ok (.iadd, 1) := dk_96 (dk_at dksX2_choices_1 5 rfl rfl)
theorem dX2_choices_30 : decode cX2_choices 30 = .ok (.istore_n 1, 1) := dk_60 (dk_at dksX2_choices_1 6 rfl rfl)
theorem dX2_choices_31 : decode cX2_choices 31 = .ok (.iinc 2 1, 3) := dk_132 2 1 (dk_at dksX2_choices_1 7 rfl rfl)
theorem dX2_choices_34 : decode cX2_choices 34 = .ok (.goto (-30), 3) := dk_167 255 226 (dk_at dksX2_choices_1 10 rfl rfl)
theorem dX2_choices_37 : decode cX2_choices 37 = .ok (.iload_n 1, 1) := dk_27 (dk_at dksX2_choices_1 13 rfl rfl)
theorem dX2_choices_38 : decode cX2_choices 38 = .ok (.ireturn, 1) := dk_172 (dk_at dksX2_choices_1 14 rfl rfl)
theorem q77 : (Jvm.Cond.initialized "PloughWills$Will") ∈ lw_all := lw_g (lw_at lw_m1 2 rfl) rfl
theorem q127 : (Jvm.Cond.instantiable "PloughWills$Will" (10 : Nat)) ∈ lw_all := lw_g (lw_at lw_m1 52 rfl) rfl
theorem q129 : (Jvm.Cond.instanceMethod ({ cls := "PloughWills$Will", name := "<init>", desc := "()V" } : Jvm.MethodName)) ∈ lw_all := lw_g (lw_at lw_m1 54 rfl) rfl
theorem q130 : (Jvm.Cond.code ({ cls := "PloughWills$Will", name := "<init>", desc := "()V" } : Jvm.MethodName) prog_13_method_1_code (1 : Nat) (Option.none : Option Jvm.ClassFile.FieldType)) ∈ lw_all := lw_g (lw_at lw_m1 55 rfl) rfl
theorem q131 : (Jvm.Cond.methodLink "PloughWills$Will" (3 : Nat) ({ cls := "java/lang/Object", name := "<init>", desc := "()V" } : Jvm.MethodName)) ∈ lw_all := lw_g (lw_at lw_m1 56 rfl) rfl
theorem q132 : (Jvm.Cond.classLink "PloughWills$Will" (9 : Nat) "PloughWills$Good") ∈ lw_all := lw_g (lw_at lw_m1 57 rfl) rfl
theorem q134 : (Jvm.Cond.methodLinkNest "PloughWills$Will" (17 : Nat) ({ cls := "PloughWills", name := "chests", desc := "()[[LPloughWills$Good;" } : Jvm.MethodName) "PloughWills") ∈ lw_tbl := lw_at lw_m1 59 rfl
theorem q145 : (Jvm.Cond.constantFloat "PloughWills$Will" (24 : Nat) (1036831949 : UInt32)) ∈ lw_all := lw_g (lw_at lw_m1 70 rfl) rfl
theorem q146 : (Jvm.Cond.fieldLink "PloughWills$Will" (11 : Nat) "PloughWills$Will" "goods" "[LPloughWills$Good;") ∈ lw_all := lw_g (lw_at lw_m1 71 rfl) rfl
theorem q148 : (Jvm.Cond.fieldLink "PloughWills$Will" (21 : Nat) "PloughWills$Will" "chests" "[[LPloughWills$Good;") ∈ lw_all := lw_g (lw_at lw_m1 73 rfl) rfl
theorem q150 : (Jvm.Cond.fieldLink "PloughWills$Will" (25 : Nat) "PloughWills$Will" "rates" "[F") ∈ lw_all := lw_g (lw_at lw_m1 75 rfl) rfl
theorem q152 : (Jvm.Cond.fieldLink "PloughWills$Will" (29 : Nat) "PloughWills$Will" "hundredths" "[I") ∈ lw_all := lw_g (lw_at lw_m1 77 rfl) rfl
theorem q153 : (Jvm.Cond.fieldLink "PloughWills$Will" (33 : Nat) "PloughWills$Will" "sorts" "[I") ∈ lw_all := lw_g (lw_at lw_m1 78 rfl) rfl
theorem q158 : (Jvm.Cond.fieldLink "PloughWills$Will" (36 : Nat) "PloughWills$Will" "ones" "[I") ∈ lw_all := lw_g (lw_at lw_m1 83 rfl) rfl
theorem q161 : (Jvm.Cond.fieldLink "PloughWills$Will" (39 : Nat) "PloughWills$Will" "others" "[I") ∈ lw_all := lw_g (lw_at lw_m1 86 rfl) rfl
theorem q164 : (Jvm.Cond.fieldLink "PloughWills$Will" (48 : Nat) "PloughWills$Will" "many" "I") ∈ lw_all := lw_g (lw_at lw_m1 89 rfl) rfl
theorem q168 : (Jvm.Cond.fieldLink "PloughWills$Will" (52 : Nat) "PloughWills$Will" "size" "I") ∈ lw_all := lw_g (lw_at lw_m1 93 rfl) rfl
theorem q172 : (Jvm.Cond.fieldLink "PloughWills$Will" (55 : Nat) "PloughWills$Will" "changes" "I") ∈ lw_all := lw_g (lw_at lw_m1 97 rfl) rfl
theorem q174 : (Jvm.Cond.laysFinal "PloughWills$Will" "PloughWills$Will" "goods" "[LPloughWills$Good;") ∈ lw_all := lw_g (lw_at lw_m1 99 rfl) rfl
theorem q175 : (Jvm.Cond.soleField "PloughWills$Will" "goods") ∈ lw_all := lw_g (lw_at lw_m1 100 rfl) rfl
theorem q176 : (Jvm.Cond.laysFinal "PloughWills$Will" "PloughWills$Will" "chests" "[[LPloughWills$Good;") ∈ lw_all := lw_g (lw_at lw_m1 101 rfl) rfl
theorem q177 : (Jvm.Cond.soleField "PloughWills$Will" "chests") ∈ lw_all := lw_g (lw_at lw_m1 102 rfl) rfl
theorem q178 : (Jvm.Cond.laysFinal "PloughWills$Will" "PloughWills$Will" "rates" "[F") ∈ lw_all := lw_g (lw_at lw_m1 103 rfl) rfl
theorem q179 : (Jvm.Cond.soleField "PloughWills$Will" "rates") ∈ lw_all := lw_g (lw_at lw_m1 104 rfl) rfl
theorem q180 : (Jvm.Cond.laysFinal "PloughWills$Will" "PloughWills$Will" "hundredths" "[I") ∈ lw_all := lw_g (lw_at lw_m1 105 rfl) rfl
theorem q181 : (Jvm.Cond.soleField "PloughWills$Will" "hundredths") ∈ lw_all := lw_g (lw_at lw_m1 106 rfl) rfl
theorem q182 : (Jvm.Cond.laysFinal "PloughWills$Will" "PloughWills$Will" "sorts" "[I") ∈ lw_all := lw_g (lw_at lw_m1 107 rfl) rfl
theorem q183 : (Jvm.Cond.soleField "PloughWills$Will" "sorts") ∈ lw_all := lw_g (lw_at lw_m1 108 rfl) rfl
theorem q184 : (Jvm.Cond.laysFinal "PloughWills$Will" "PloughWills$Will" "ones" "[I") ∈ lw_all := lw_g (lw_at lw_m1 109 rfl) rfl
theorem q185 : (Jvm.Cond.soleField "PloughWills$Will" "ones") ∈ lw_all := lw_g (lw_at lw_m1 110 rfl) rfl
theorem q186 : (Jvm.Cond.laysFinal "PloughWills$Will" "PloughWills$Will" "others" "[I") ∈ lw_all := lw_g (lw_at lw_m1 111 rfl) rfl
theorem q187 : (Jvm.Cond.soleField "PloughWills$Will" "others") ∈ lw_all := lw_g (lw_at lw_m1 112 rfl) rfl
theorem q188 : (Jvm.Cond.lays "PloughWills$Will" "PloughWills$Will" "many" "I") ∈ lw_all := lw_g (lw_at lw_m1 113 rfl) rfl
theorem q189 : (Jvm.Cond.soleField "PloughWills$Will" "many") ∈ lw_all := lw_g (lw_at lw_m1 114 rfl) rfl
theorem q190 : (Jvm.Cond.lays "PloughWills$Will" "PloughWills$Will" "size" "I") ∈ lw_all := lw_g (lw_at lw_m1 115 rfl) rfl
theorem q191 : (Jvm.Cond.soleField "PloughWills$Will" "size") ∈ lw_all := lw_g (lw_at lw_m1 116 rfl) rfl
theorem q192 : (Jvm.Cond.lays "PloughWills$Will" "PloughWills$Will" "changes" "I") ∈ lw_all := lw_g (lw_at lw_m1 117 rfl) rfl
theorem q193 : (Jvm.Cond.soleField "PloughWills$Will" "changes") ∈ lw_all := lw_g (lw_at lw_m1 118 rfl) rfl
theorem q194 : (Jvm.Cond.superclass "PloughWills$Will" "java/lang/Object") ∈ lw_all := lw_g (lw_at lw_m1 119 rfl) rfl
theorem q386 : (Jvm.Cond.fieldLinkNest "PloughWills$Will" (104 : Nat) "PloughWills$Reader" "many" "I" "PloughWills") ∈ lw_tbl := lw_at lw_m2 71 rfl
theorem q388 : (Jvm.Cond.fieldLinkNest "PloughWills$Will" (107 : Nat) "PloughWills$Reader" "sorts" "[I" "PloughWills") ∈ lw_tbl := lw_at lw_m2 73 rfl
theorem q390 : (Jvm.Cond.fieldLinkNest "PloughWills$Will" (108 : Nat) "PloughWills$Reader" "ones" "[I" "PloughWills") ∈ lw_tbl := lw_at lw_m2 75 rfl
theorem q392 : (Jvm.Cond.fieldLinkNest "PloughWills$Will" (109 : Nat) "PloughWills$Reader" "others" "[I" "PloughWills") ∈ lw_tbl := lw_at lw_m2 77 rfl
theorem q515 : (Jvm.Cond.selects "PloughWills$Will" ({ cls := "java/lang/Object", name := "getClass", desc := "()Ljava/lang/Class;" } : Jvm.MethodName) ({ cls := "java/lang/Object", name := "getClass", desc := "()Ljava/lang/Class;" } : Jvm.MethodName)) ∈ lw_all := lw_g (lw_at lw_m2 200 rfl) rfl
theorem q611 : (Jvm.Cond.instanceMethod ({ cls := "PloughWills$Will", name := "behind", desc := "(III)I" } : Jvm.MethodName)) ∈ lw_all := lw_g (lw_at lw_m3 56 rfl) rfl
theorem q612 : (Jvm.Cond.selects "PloughWills$Will" ({ cls := "PloughWills$Will", name := "behind", desc := "(III)I" } : Jvm.MethodName) ({ cls := "PloughWills$Will", name := "behind", desc := "(III)I" } : Jvm.MethodName)) ∈ lw_all := lw_g (lw_at lw_m3 57 rfl) rfl
theorem q613 : (Jvm.Cond.code ({ cls := "PloughWills$Will", name := "behind", desc := "(III)I" } : Jvm.MethodName) prog_13_method_20_code (6 : Nat) (Option.some Jvm.ClassFile.FieldType.int)) ∈ lw_all := lw_g (lw_at lw_m3 58 rfl) rfl
theorem q664 : (Jvm.Cond.instanceMethod ({ cls := "PloughWills$Will", name := "kind", desc := "(I)I" } : Jvm.MethodName)) ∈ lw_all := lw_g (lw_at lw_m3 109 rfl) rfl
theorem q665 : (Jvm.Cond.selects "PloughWills$Will" ({ cls := "PloughWills$Will", name := "kind", desc := "(I)I" } : Jvm.MethodName) ({ cls := "PloughWills$Will", name := "kind", desc := "(I)I" } : Jvm.MethodName)) ∈ lw_all := lw_g (lw_at lw_m3 110 rfl) rfl
theorem q666 : (Jvm.Cond.code ({ cls := "PloughWills$Will", name := "kind", desc := "(I)I" } : Jvm.MethodName) prog_13_method_4_code (2 : Nat) (Option.some Jvm.ClassFile.FieldType.int)) ∈ lw_all := lw_g (lw_at lw_m3 111 rfl) rfl
theorem q997 : (Jvm.Cond.instanceMethod ({ cls := "PloughWills$Will", name := "writes", desc := "(Ljava/lang/StringBuilder;)V" } : Jvm.MethodName)) ∈ lw_all := lw_g (lw_at lw_m4 202 rfl) rfl
theorem q998 : (Jvm.Cond.selects "PloughWills$Will" ({ cls := "PloughWills$Will", name := "writes", desc := "(Ljava/lang/StringBuilder;)V" } : Jvm.MethodName) ({ cls := "PloughWills$Will", name := "writes", desc := "(Ljava/lang/StringBuilder;)V" } : Jvm.MethodName)) ∈ lw_all := lw_g (lw_at lw_m4 203 rfl) rfl
theorem q999 : (Jvm.Cond.code ({ cls := "PloughWills$Will", name := "writes", desc := "(Ljava/lang/StringBuilder;)V" } : Jvm.MethodName) prog_13_method_23_code (3 : Nat) (Option.none : Option Jvm.ClassFile.FieldType)) ∈ lw_all := lw_g (lw_at lw_m4 204 rfl) rfl
theorem q1000 : (Jvm.Cond.stringRef "PloughWills$Will" (114 : Nat) "()bguwp[|]") ∈ lw_tbl := lw_at lw_m4 205 rfl
theorem q1001 : (Jvm.Cond.methodLink "PloughWills$Will" (116 : Nat) ({ cls := "java/lang/String", name := "charAt", desc := "(I)C" } : Jvm.MethodName)) ∈ lw_all := lw_g (lw_at lw_m4 206 rfl) rfl
theorem q1025 : (Jvm.Cond.methodLink "PloughWills$Will" (122 : Nat) ({ cls := "java/lang/StringBuilder", name := "append", desc := "(C)Ljava/lang/StringBuilder;" } : Jvm.MethodName)) ∈ lw_all := lw_g (lw_at lw_m4 230 rfl) rfl
theorem q1038 : (Jvm.Cond.methodLinkNest "PloughWills$Will" (58 : Nat) ({ cls := "PloughWills", name := "in", desc := "(III)Z" } : Jvm.MethodName) "PloughWills") ∈ lw_tbl := lw_at lw_m5 3 rfl
theorem q1041 : (Jvm.Cond.methodLink "PloughWills$Will" (128 : Nat) ({ cls := "java/lang/StringBuilder", name := "append", desc := "(I)Ljava/lang/StringBuilder;" } : Jvm.MethodName)) ∈ lw_all := lw_g (lw_at lw_m5 6 rfl) rfl
theorem q1054 : (Jvm.Cond.instanceMethod ({ cls := "PloughWills$Will", name := "areInTheirChests", desc := "()Z" } : Jvm.MethodName)) ∈ lw_all := lw_g (lw_at lw_m5 19 rfl) rfl
theorem q1055 : (Jvm.Cond.selects "PloughWills$Will" ({ cls := "PloughWills$Will", name := "areInTheirChests", desc := "()Z" } : Jvm.MethodName) ({ cls := "PloughWills$Will", name := "areInTheirChests", desc := "()Z" } : Jvm.MethodName)) ∈ lw_all := lw_g (lw_at lw_m5 20 rfl) rfl
theorem q1056 : (Jvm.Cond.code ({ cls := "PloughWills$Will", name := "areInTheirChests", desc := "()Z" } : Jvm.MethodName) prog_13_method_24_code (7 : Nat) (Option.some Jvm.ClassFile.FieldType.boolean)) ∈ lw_all := lw_g (lw_at lw_m5 21 rfl) rfl
theorem q1065 : (Jvm.Cond.instanceMethod ({ cls := "PloughWills$Will", name := "worthOf", desc := "(I)I" } : Jvm.MethodName)) ∈ lw_all := lw_g (lw_at lw_m5 30 rfl) rfl
theorem q1066 : (Jvm.Cond.selects "PloughWills$Will" ({ cls := "PloughWills$Will", name := "worthOf", desc := "(I)I" } : Jvm.MethodName) ({ cls := "PloughWills$Will", name := "worthOf", desc := "(I)I" } : Jvm.MethodName)) ∈ lw_all := lw_g (lw_at lw_m5 31 rfl) rfl
theorem q1067 : (Jvm.Cond.code ({ cls := "PloughWills$Will", name := "worthOf", desc := "(I)I" } : Jvm.MethodName) prog_13_method_22_code (2 : Nat) (Option.some Jvm.ClassFile.FieldType.int)) ∈ lw_all := lw_g (lw_at lw_m5 32 rfl) rfl
theorem q1082 : (Jvm.Cond.instanceMethod ({ cls := "PloughWills$Will", name := "take", desc := "(LPloughWills$Will;)V" } : Jvm.MethodName)) ∈ lw_all := lw_g (lw_at lw_m5 47 rfl) rfl
theorem q1083 : (Jvm.Cond.selects "PloughWills$Will" ({ cls := "PloughWills$Will", name := "take", desc := "(LPloughWills$Will;)V" } : Jvm.MethodName) ({ cls := "PloughWills$Will", name := "take", desc := "(LPloughWills$Will;)V" } : Jvm.MethodName)) ∈ lw_all := lw_g (lw_at lw_m5 48 rfl) rfl
theorem q1084 : (Jvm.Cond.code ({ cls := "PloughWills$Will", name := "take", desc := "(LPloughWills$Will;)V" } : Jvm.MethodName) prog_13_method_2_code (3 : Nat) (Option.none : Option Jvm.ClassFile.FieldType)) ∈ lw_all := lw_g (lw_at lw_m5 49 rfl) rfl
theorem q1085 : (Jvm.Cond.methodLink "PloughWills$Will" (42 : Nat) ({ cls := "java/lang/System", name := "arraycopy", desc := "(Ljava/lang/Object;ILjava/lang/Object;II)V" } : Jvm.MethodName)) ∈ lw_all := lw_g (lw_at lw_m5 50 rfl) rfl
theorem q1119 : (Jvm.Cond.instanceMethod ({ cls := "PloughWills$Will", name := "good", desc := "(II)I" } : Jvm.MethodName)) ∈ lw_all := lw_g (lw_at lw_m5 84 rfl) rfl
theorem q1120 : (Jvm.Cond.selects "PloughWills$Will" ({ cls := "PloughWills$Will", name := "good", desc := "(II)I" } : Jvm.MethodName) ({ cls := "PloughWills$Will", name := "good", desc := "(II)I" } : Jvm.MethodName)) ∈ lw_all := lw_g (lw_at lw_m5 85 rfl) rfl
theorem q1121 : (Jvm.Cond.code ({ cls := "PloughWills$Will", name := "good", desc := "(II)I" } : Jvm.MethodName) prog_13_method_5_code (3 : Nat) (Option.some Jvm.ClassFile.FieldType.int)) ∈ lw_all := lw_g (lw_at lw_m5 86 rfl) rfl
theorem q1122 : (Jvm.Cond.methodLinkNest "PloughWills$Will" (65 : Nat) ({ cls := "PloughWills", name := "refuse", desc := "(ZII)V" } : Jvm.MethodName) "PloughWills") ∈ lw_tbl := lw_at lw_m5 87 rfl
theorem q1147 : (Jvm.Cond.methodLinkNest "PloughWills$Will" (69 : Nat) ({ cls := "PloughWills", name := "goodOf", desc := "(III)LPloughWills$Good;" } : Jvm.MethodName) "PloughWills") ∈ lw_tbl := lw_at lw_m5 112 rfl
theorem q1161 : (Jvm.Cond.fieldLinkNest "PloughWills$Will" (62 : Nat) "PloughWills$Good" "kind" "I" "PloughWills") ∈ lw_tbl := lw_at lw_m5 126 rfl
theorem q1163 : (Jvm.Cond.fieldLinkNest "PloughWills$Will" (89 : Nat) "PloughWills$Good" "worth" "I" "PloughWills") ∈ lw_tbl := lw_at lw_m5 128 rfl
theorem q1243 : (Jvm.Cond.instanceMethod ({ cls := "PloughWills$Will", name := "isGood", desc := "(I)Z" } : Jvm.MethodName)) ∈ lw_all := lw_g (lw_at lw_m5 208 rfl) rfl
theorem q1244 : (Jvm.Cond.selects "PloughWills$Will" ({ cls := "PloughWills$Will", name := "isGood", desc := "(I)Z" } : Jvm.MethodName) ({ cls := "PloughWills$Will", name := "isGood", desc := "(I)Z" } : Jvm.MethodName)) ∈ lw_all := lw_g (lw_at lw_m5 209 rfl) rfl
theorem q1245 : (Jvm.Cond.code ({ cls := "PloughWills$Will", name := "isGood", desc := "(I)Z" } : Jvm.MethodName) prog_13_method_3_code (2 : Nat) (Option.some Jvm.ClassFile.FieldType.boolean)) ∈ lw_all := lw_g (lw_at lw_m5 210 rfl) rfl
theorem q1265 : (Jvm.Cond.instanceMethod ({ cls := "PloughWills$Will", name := "put", desc := "(II)I" } : Jvm.MethodName)) ∈ lw_all := lw_g (lw_at lw_m5 230 rfl) rfl
theorem q1266 : (Jvm.Cond.selects "PloughWills$Will" ({ cls := "PloughWills$Will", name := "put", desc := "(II)I" } : Jvm.MethodName) ({ cls := "PloughWills$Will", name := "put", desc := "(II)I" } : Jvm.MethodName)) ∈ lw_all := lw_g (lw_at lw_m5 231 rfl) rfl
theorem q1267 : (Jvm.Cond.code ({ cls := "PloughWills$Will", name := "put", desc := "(II)I" } : Jvm.MethodName) prog_13_method_9_code (5 : Nat) (Option.some Jvm.ClassFile.FieldType.int)) ∈ lw_all := lw_g (lw_at lw_m5 232 rfl) rfl
theorem q1268 : (Jvm.Cond.methodLink "PloughWills$Will" (78 : Nat) ({ cls := "PloughWills$Will", name := "takes", desc := "([LPloughWills$Good;LPloughWills$Good;)Z" } : Jvm.MethodName)) ∈ lw_all := lw_g (lw_at lw_m5 233 rfl) rfl
theorem q1269 : (Jvm.Cond.static ({ cls := "PloughWills$Will", name := "takes", desc := "([LPloughWills$Good;LPloughWills$Good;)Z" } : Jvm.MethodName)) ∈ lw_all := lw_g (lw_at lw_m5 234 rfl) rfl
theorem q1270 : (Jvm.Cond.codeWith ({ cls := "PloughWills$Will", name := "takes", desc := "([LPloughWills$Good;LPloughWills$Good;)Z" } : Jvm.MethodName) prog_13_method_8_code (4 : Nat) (Option.some Jvm.ClassFile.FieldType.boolean) [((4 : Nat), (13 : Nat), (14 : Nat), (76 : Nat))]) ∈ lw_all := lw_g (lw_at lw_m5 235 rfl) rfl
theorem q1271 : (Jvm.Cond.classLink "PloughWills$Will" (76 : Nat) "java/lang/ArrayStoreException") ∈ lw_all := lw_g (lw_at lw_m5 236 rfl) rfl
theorem q1285 : (Jvm.Cond.methodLink "PloughWills$Will" (82 : Nat) ({ cls := "PloughWills$Will", name := "full", desc := "(I)I" } : Jvm.MethodName)) ∈ lw_all := lw_g (lw_at lw_m6 10 rfl) rfl
theorem q1286 : (Jvm.Cond.instanceMethod ({ cls := "PloughWills$Will", name := "full", desc := "(I)I" } : Jvm.MethodName)) ∈ lw_all := lw_g (lw_at lw_m6 11 rfl) rfl
theorem q1287 : (Jvm.Cond.selects "PloughWills$Will" ({ cls := "PloughWills$Will", name := "full", desc := "(I)I" } : Jvm.MethodName) ({ cls := "PloughWills$Will", name := "full", desc := "(I)I" } : Jvm.MethodName)) ∈ lw_all := lw_g (lw_at lw_m6 12 rfl) rfl
theorem q1288 : (Jvm.Cond.code ({ cls := "PloughWills$Will", name := "full", desc := "(I)I" } : Jvm.MethodName) prog_13_method_6_code (3 : Nat) (Option.some Jvm.ClassFile.FieldType.int)) ∈ lw_all := lw_g (lw_at lw_m6 13 rfl) rfl
theorem q1289 : (Jvm.Cond.methodLink "PloughWills$Will" (85 : Nat) ({ cls := "PloughWills$Will", name := "placeOf", desc := "(I)I" } : Jvm.MethodName)) ∈ lw_all := lw_g (lw_at lw_m6 14 rfl) rfl
theorem q1290 : (Jvm.Cond.instanceMethod ({ cls := "PloughWills$Will", name := "placeOf", desc := "(I)I" } : Jvm.MethodName)) ∈ lw_all := lw_g (lw_at lw_m6 15 rfl) rfl
theorem q1291 : (Jvm.Cond.selects "PloughWills$Will" ({ cls := "PloughWills$Will", name := "placeOf", desc := "(I)I" } : Jvm.MethodName) ({ cls := "PloughWills$Will", name := "placeOf", desc := "(I)I" } : Jvm.MethodName)) ∈ lw_all := lw_g (lw_at lw_m6 16 rfl) rfl
theorem q1292 : (Jvm.Cond.code ({ cls := "PloughWills$Will", name := "placeOf", desc := "(I)I" } : Jvm.MethodName) prog_13_method_7_code (4 : Nat) (Option.some Jvm.ClassFile.FieldType.int)) ∈ lw_all := lw_g (lw_at lw_m6 17 rfl) rfl
theorem q1293 : (Jvm.Cond.methodLink "PloughWills$Will" (73 : Nat) ({ cls := "PloughWills$Will", name := "kind", desc := "(I)I" } : Jvm.MethodName)) ∈ lw_all := lw_g (lw_at lw_m6 18 rfl) rfl
theorem q1302 : (Jvm.Cond.instanceMethod ({ cls := "PloughWills$Will", name := "takeOut", desc := "(I)I" } : Jvm.MethodName)) ∈ lw_all := lw_g (lw_at lw_m6 27 rfl) rfl
theorem q1303 : (Jvm.Cond.selects "PloughWills$Will" ({ cls := "PloughWills$Will", name := "takeOut", desc := "(I)I" } : Jvm.MethodName) ({ cls := "PloughWills$Will", name := "takeOut", desc := "(I)I" } : Jvm.MethodName)) ∈ lw_all := lw_g (lw_at lw_m6 28 rfl) rfl
theorem q1304 : (Jvm.Cond.code ({ cls := "PloughWills$Will", name := "takeOut", desc := "(I)I" } : Jvm.MethodName) prog_13_method_10_code (5 : Nat) (Option.some Jvm.ClassFile.FieldType.int)) ∈ lw_all := lw_g (lw_at lw_m6 29 rfl) rfl
theorem q1313 : (Jvm.Cond.instanceMethod ({ cls := "PloughWills$Will", name := "rate", desc := "(II)I" } : Jvm.MethodName)) ∈ lw_all := lw_g (lw_at lw_m6 38 rfl) rfl
theorem q1314 : (Jvm.Cond.selects "PloughWills$Will" ({ cls := "PloughWills$Will", name := "rate", desc := "(II)I" } : Jvm.MethodName) ({ cls := "PloughWills$Will", name := "rate", desc := "(II)I" } : Jvm.MethodName)) ∈ lw_all := lw_g (lw_at lw_m6 39 rfl) rfl
theorem q1315 : (Jvm.Cond.code ({ cls := "PloughWills$Will", name := "rate", desc := "(II)I" } : Jvm.MethodName) prog_13_method_11_code (4 : Nat) (Option.some Jvm.ClassFile.FieldType.int)) ∈ lw_all := lw_g (lw_at lw_m6 40 rfl) rfl
theorem q1316 : (Jvm.Cond.constantFloat "PloughWills$Will" (88 : Nat) (1120403456 : UInt32)) ∈ lw_all := lw_g (lw_at lw_m6 41 rfl) rfl
theorem q1327 : (Jvm.Cond.instanceMethod ({ cls := "PloughWills$Will", name := "withSort", desc := "(IIIZ)I" } : Jvm.MethodName)) ∈ lw_all := lw_g (lw_at lw_m6 52 rfl) rfl
theorem q1328 : (Jvm.Cond.selects "PloughWills$Will" ({ cls := "PloughWills$Will", name := "withSort", desc := "(IIIZ)I" } : Jvm.MethodName) ({ cls := "PloughWills$Will", name := "withSort", desc := "(IIIZ)I" } : Jvm.MethodName)) ∈ lw_all := lw_g (lw_at lw_m6 53 rfl) rfl
theorem q1329 : (Jvm.Cond.code ({ cls := "PloughWills$Will", name := "withSort", desc := "(IIIZ)I" } : Jvm.MethodName) prog_13_method_18_code (7 : Nat) (Option.some Jvm.ClassFile.FieldType.int)) ∈ lw_all := lw_g (lw_at lw_m6 54 rfl) rfl
theorem q1365 : (Jvm.Cond.instanceMethod ({ cls := "PloughWills$Will", name := "tithe", desc := "(I)F" } : Jvm.MethodName)) ∈ lw_all := lw_g (lw_at lw_m6 90 rfl) rfl
theorem q1366 : (Jvm.Cond.selects "PloughWills$Will" ({ cls := "PloughWills$Will", name := "tithe", desc := "(I)F" } : Jvm.MethodName) ({ cls := "PloughWills$Will", name := "tithe", desc := "(I)F" } : Jvm.MethodName)) ∈ lw_all := lw_g (lw_at lw_m6 91 rfl) rfl
theorem q1367 : (Jvm.Cond.code ({ cls := "PloughWills$Will", name := "tithe", desc := "(I)F" } : Jvm.MethodName) prog_13_method_12_code (2 : Nat) (Option.some Jvm.ClassFile.FieldType.float)) ∈ lw_all := lw_g (lw_at lw_m6 92 rfl) rfl
theorem q1396 : (Jvm.Cond.instanceMethod ({ cls := "PloughWills$Will", name := "insert", desc := "(IIII)I" } : Jvm.MethodName)) ∈ lw_all := lw_g (lw_at lw_m6 121 rfl) rfl
theorem q1397 : (Jvm.Cond.selects "PloughWills$Will" ({ cls := "PloughWills$Will", name := "insert", desc := "(IIII)I" } : Jvm.MethodName) ({ cls := "PloughWills$Will", name := "insert", desc := "(IIII)I" } : Jvm.MethodName)) ∈ lw_all := lw_g (lw_at lw_m6 122 rfl) rfl
theorem q1398 : (Jvm.Cond.code ({ cls := "PloughWills$Will", name := "insert", desc := "(IIII)I" } : Jvm.MethodName) prog_13_method_15_code (6 : Nat) (Option.some Jvm.ClassFile.FieldType.int)) ∈ lw_all := lw_g (lw_at lw_m6 123 rfl) rfl
theorem q1399 : (Jvm.Cond.methodLink "PloughWills$Will" (96 : Nat) ({ cls := "PloughWills$Will", name := "checkClause", desc := "(III)V" } : Jvm.MethodName)) ∈ lw_all := lw_g (lw_at lw_m6 124 rfl) rfl
theorem q1400 : (Jvm.Cond.privateMethod ({ cls := "PloughWills$Will", name := "checkClause", desc := "(III)V" } : Jvm.MethodName)) ∈ lw_tbl := lw_at lw_m6 125 rfl
theorem q1401 : (Jvm.Cond.instanceMethod ({ cls := "PloughWills$Will", name := "checkClause", desc := "(III)V" } : Jvm.MethodName)) ∈ lw_all := lw_g (lw_at lw_m6 126 rfl) rfl
theorem q1402 : (Jvm.Cond.code ({ cls := "PloughWills$Will", name := "checkClause", desc := "(III)V" } : Jvm.MethodName) prog_13_method_13_code (4 : Nat) (Option.none : Option Jvm.ClassFile.FieldType)) ∈ lw_all := lw_g (lw_at lw_m6 127 rfl) rfl
theorem q1403 : (Jvm.Cond.methodLink "PloughWills$Will" (92 : Nat) ({ cls := "PloughWills$Will", name := "isGood", desc := "(I)Z" } : Jvm.MethodName)) ∈ lw_all := lw_g (lw_at lw_m6 128 rfl) rfl
theorem q1404 : (Jvm.Cond.methodLink "PloughWills$Will" (100 : Nat) ({ cls := "PloughWills$Will", name := "puts", desc := "(IIII)V" } : Jvm.MethodName)) ∈ lw_all := lw_g (lw_at lw_m6 129 rfl) rfl
theorem q1405 : (Jvm.Cond.privateMethod ({ cls := "PloughWills$Will", name := "puts", desc := "(IIII)V" } : Jvm.MethodName)) ∈ lw_tbl := lw_at lw_m6 130 rfl
theorem q1406 : (Jvm.Cond.instanceMethod ({ cls := "PloughWills$Will", name := "puts", desc := "(IIII)V" } : Jvm.MethodName)) ∈ lw_all := lw_g (lw_at lw_m6 131 rfl) rfl
theorem q1407 : (Jvm.Cond.code ({ cls := "PloughWills$Will", name := "puts", desc := "(IIII)V" } : Jvm.MethodName) prog_13_method_14_code (5 : Nat) (Option.none : Option Jvm.ClassFile.FieldType)) ∈ lw_all := lw_g (lw_at lw_m6 132 rfl) rfl
theorem q1427 : (Jvm.Cond.instanceMethod ({ cls := "PloughWills$Will", name := "remove", desc := "(I)I" } : Jvm.MethodName)) ∈ lw_all := lw_g (lw_at lw_m6 152 rfl) rfl
theorem q1428 : (Jvm.Cond.selects "PloughWills$Will" ({ cls := "PloughWills$Will", name := "remove", desc := "(I)I" } : Jvm.MethodName) ({ cls := "PloughWills$Will", name := "remove", desc := "(I)I" } : Jvm.MethodName)) ∈ lw_all := lw_g (lw_at lw_m6 153 rfl) rfl
theorem q1429 : (Jvm.Cond.code ({ cls := "PloughWills$Will", name := "remove", desc := "(I)I" } : Jvm.MethodName) prog_13_method_16_code (4 : Nat) (Option.some Jvm.ClassFile.FieldType.int)) ∈ lw_all := lw_g (lw_at lw_m6 154 rfl) rfl
theorem q1495 : (Jvm.Cond.instanceMethod ({ cls := "PloughWills$Will", name := "titheOf", desc := "(I)F" } : Jvm.MethodName)) ∈ lw_all := lw_g (lw_at lw_m6 220 rfl) rfl
theorem q1496 : (Jvm.Cond.selects "PloughWills$Will" ({ cls := "PloughWills$Will", name := "titheOf", desc := "(I)F" } : Jvm.MethodName) ({ cls := "PloughWills$Will", name := "titheOf", desc := "(I)F" } : Jvm.MethodName)) ∈ lw_all := lw_g (lw_at lw_m6 221 rfl) rfl
theorem q1497 : (Jvm.Cond.code ({ cls := "PloughWills$Will", name := "titheOf", desc := "(I)F" } : Jvm.MethodName) prog_13_method_21_code (2 : Nat) (Option.some Jvm.ClassFile.FieldType.float)) ∈ lw_all := lw_g (lw_at lw_m6 222 rfl) rfl
theorem q1498 : (Jvm.Cond.methodLink "PloughWills$Will" (110 : Nat) ({ cls := "PloughWills$Will", name := "tithe", desc := "(I)F" } : Jvm.MethodName)) ∈ lw_all := lw_g (lw_at lw_m6 223 rfl) rfl
theorem q1637 : (Jvm.Cond.instanceMethod ({ cls := "PloughWills$Will", name := "reads", desc := "(LPloughWills$Reader;)I" } : Jvm.MethodName)) ∈ lw_all := lw_g (lw_at lw_m7 122 rfl) rfl
theorem q1638 : (Jvm.Cond.selects "PloughWills$Will" ({ cls := "PloughWills$Will", name := "reads", desc := "(LPloughWills$Reader;)I" } : Jvm.MethodName) ({ cls := "PloughWills$Will", name := "reads", desc := "(LPloughWills$Reader;)I" } : Jvm.MethodName)) ∈ lw_all := lw_g (lw_at lw_m7 123 rfl) rfl
theorem q1639 : (Jvm.Cond.code ({ cls := "PloughWills$Will", name := "reads", desc := "(LPloughWills$Reader;)I" } : Jvm.MethodName) prog_13_method_17_code (3 : Nat) (Option.some Jvm.ClassFile.FieldType.int)) ∈ lw_all := lw_g (lw_at lw_m7 124 rfl) rfl
theorem q1659 : (Jvm.Cond.instanceMethod ({ cls := "PloughWills$Will", name := "choices", desc := "()I" } : Jvm.MethodName)) ∈ lw_all := lw_g (lw_at lw_m7 144 rfl) rfl
theorem q1660 : (Jvm.Cond.selects "PloughWills$Will" ({ cls := "PloughWills$Will", name := "choices", desc := "()I" } : Jvm.MethodName) ({ cls := "PloughWills$Will", name := "choices", desc := "()I" } : Jvm.MethodName)) ∈ lw_all := lw_g (lw_at lw_m7 145 rfl) rfl
theorem q1661 : (Jvm.Cond.code ({ cls := "PloughWills$Will", name := "choices", desc := "()I" } : Jvm.MethodName) prog_13_method_19_code (3 : Nat) (Option.some Jvm.ClassFile.FieldType.int)) ∈ lw_all := lw_g (lw_at lw_m7 146 rfl) rfl
theorem q2177 : (Jvm.Cond.castable "PloughWills$Will" "java/lang/Object") ∈ lw_tbl := lw_at lw_m9 182 rfl
theorem in_X2 : ∀ w ∈ wsX20, w ∈ lw_all := lw_in wsX20 [174, 176, 178, 180, 182, 184, 186, 188, 190, 192] (by decide +kernel) (by decide +kernel)
/-! PloughWills$Walk -/
set_option maxRecDepth 100000
def RX3 : String := "PloughWills$Walk"
def TX3 : u_T := fun k => match k with
  | 0 => ("PloughWills$Walk", "will", "LPloughWills$Will;", false)
  | 1 => ("PloughWills$Walk", "field", "LPloughWills$Field;", true)
  | 2 => ("PloughWills$Walk", "began", "[LPloughWills$Field;", true)
  | 3 => ("PloughWills$Walk", "behind", "[LPloughWills$Field;", true)
  | 4 => ("PloughWills$Walk", "ends", "[I", true)
  | 5 => ("PloughWills$Walk", "depth", "I", false)
  | 6 => ("PloughWills$Walk", "reason", "I", false)
  | 7 => ("PloughWills$Walk", "place", "I", false)
  | 8 => ("PloughWills$Walk", "detail", "I", false)
  | 9 => ("PloughWills$Walk", "goodsAhead", "[I", false)
  | 10 => ("PloughWills$Walk", "ploughsAhead", "[I", false)
  | _ => ("PloughWills$Walk", "stop", "I", false)
def tyX3 : Nat → FieldType := fun k => match k with
  | 0 => .object "PloughWills$Will"
  | 1 => .object "PloughWills$Field"
  | 2 => .array (.object "PloughWills$Field")
  | 3 => .array (.object "PloughWills$Field")
  | 4 => .array .int
  | 5 => .int
  | 6 => .int
  | 7 => .int
  | 8 => .int
  | 9 => .array .int
  | 10 => .array .int
  | _ => .int
abbrev wsX30 : List Cond := u_ws RX3 TX3 12
theorem nmX3 : ∀ a, a < 12 → ∀ b, b < 12 → a ≠ b → (TX3 a).2.1 ≠ (TX3 b).2.1 := by decide +kernel
theorem tyX3_ok : ∀ k, k < 12 → parseFieldDescriptor (TX3 k).2.2.1 = some (tyX3 k) := by decide +kernel
abbrev cX3_init : ByteArray := prog_12_method_1_code
def yX3_init : MethodName := ⟨RX3, "<init>", "()V"⟩
def dkwX3_init_4 : List UInt8 := [167, 255, 221, 177]
abbrev dktX3_init_4 : List UInt8 := dkwX3_init_4 ++ []
def dkwX3_init_3 : List UInt8 := [187, 0, 9, 89, 183, 0, 11, 83, 42, 180, 0, 22, 27, 187, 0, 9, 89, 183, 0, 11, 83, 132, 1, 1]
abbrev dktX3_init_3 : List UInt8 := dkwX3_init_3 ++ dktX3_init_4
def dkwX3_init_2 : List UInt8 := [181, 0, 29, 42, 8, 188, 10, 181, 0, 32, 3, 60, 27, 16, 24, 163, 0, 35, 42, 180, 0, 18, 27]
abbrev dktX3_init_2 : List UInt8 := dkwX3_init_2 ++ dktX3_init_3
def dkwX3_init_1 : List UInt8 := [42, 16, 25, 189, 0, 9, 181, 0, 22, 42, 16, 25, 188, 10, 181, 0, 25, 42, 16, 8, 188, 10]
abbrev dktX3_init_1 : List UInt8 := dkwX3_init_1 ++ dktX3_init_2
def dkwX3_init_0 : List UInt8 := [42, 183, 0, 3, 42, 187, 0, 9, 89, 183, 0, 11, 181, 0, 12, 42, 16, 25, 189, 0, 9, 181, 0, 18]
abbrev dktX3_init_0 : List UInt8 := dkwX3_init_0 ++ dktX3_init_1
theorem dksX3_init_0 : cX3_init.data.toList.drop 0 = dktX3_init_0 := by decide +kernel
theorem dksX3_init_1 : cX3_init.data.toList.drop 24 = dktX3_init_1 := dk_seg dksX3_init_0 24 rfl rfl
theorem dksX3_init_2 : cX3_init.data.toList.drop 46 = dktX3_init_2 := dk_seg dksX3_init_1 22 rfl rfl
theorem dksX3_init_3 : cX3_init.data.toList.drop 69 = dktX3_init_3 := dk_seg dksX3_init_2 23 rfl rfl
theorem dksX3_init_4 : cX3_init.data.toList.drop 93 = dktX3_init_4 := dk_seg dksX3_init_3 24 rfl rfl
theorem dX3_init_0 : decode cX3_init 0 = .ok (.aload_n 0, 1) := dk_42 (dk_at dksX3_init_0 0 rfl rfl)
theorem dX3_init_1 : decode cX3_init 1 = .ok (.invokespecial 3, 3) := dk_183 0 3 (dk_at dksX3_init_0 1 rfl rfl)
theorem dX3_init_4 : decode cX3_init 4 = .ok (.aload_n 0, 1) := dk_42 (dk_at dksX3_init_0 4 rfl rfl)
theorem dX3_init_5 : decode cX3_init 5 = .ok (.new 9, 3) := dk_187 0 9 (dk_at dksX3_init_0 5 rfl rfl)
theorem dX3_init_8 : decode cX3_init 8 = .ok (.dup, 1) := dk_89 (dk_at dksX3_init_0 8 rfl rfl)
theorem dX3_init_9 : decode cX3_init 9 = .ok (.invokespecial 11, 3) := dk_183 0 11 (dk_at dksX3_init_0 9 rfl rfl)
theorem dX3_init_12 : decode cX3_init 12 = .ok (.putfield 12, 3) := dk_181 0 12 (dk_at dksX3_init_0 12 rfl rfl)
theorem dX3_init_15 : decode cX3_init 15 = .ok (.aload_n 0, 1) := dk_42 (dk_at dksX3_init_0 15 rfl rfl)
theorem dX3_init_16 : decode cX3_init 16 = .ok (.bipush 25, 2) := dk_16 25 (dk_at dksX3_init_0 16 rfl rfl)
theorem dX3_init_18 : decode cX3_init 18 = .ok (.anewarray 9, 3) := dk_189 0 9 (dk_at dksX3_init_0 18 rfl rfl)
theorem dX3_init_21 : decode cX3_init 21 = .ok (.putfield 18, 3) := dk_181 0 18 (dk_at dksX3_init_0 21 rfl rfl)
theorem dX3_init_24 : decode cX3_init 24 = .ok (.aload_n 0, 1) := dk_42 (dk_at dksX3_init_1 0 rfl rfl)
theorem dX3_init_25 : decode cX3_init 25 = .ok (.bipush 25, 2) := dk_16 25 (dk_at dksX3_init_1 1 rfl rfl)
theorem dX3_init_27 : decode cX3_init 27 = .ok (.anewarray 9, 3) := dk_189 0 9 (dk_at dksX3_init_1 3 rfl rfl)
theorem dX3_init_30 : decode cX3_init 30 = .ok (.putfield 22, 3) := dk_181 0 22 (dk_at dksX3_init_1 6 rfl rfl)
theorem dX3_init_33 : decode cX3_init 33 = .ok (.aload_n 0, 1) := dk_42 (dk_at dksX3_init_1 9 rfl rfl)
theorem dX3_init_34 : decode cX3_init 34 = .ok (.bipush 25, 2) := dk_16 25 (dk_at dksX3_init_1 10 rfl rfl)
theorem dX3_init_36 : decode cX3_init 36 = .ok (.newarray .int, 2) := dk_188_10 (dk_at dksX3_init_1 12 rfl rfl)
theorem dX3_init_38 : decode cX3_init 38 = .ok (.putfield 25, 3) := dk_181 0 25 (dk_at dksX3_init_1 14 rfl rfl)
theorem dX3_init_41 : decode cX3_init 41 = .ok (.aload_n 0, 1) := dk_42 (dk_at dksX3_init_1 17 rfl rfl)
theorem dX3_init_42 : decode cX3_init 42 = .ok (.bipush 8, 2) := dk_16 8 (dk_at dksX3_init_1 18 rfl rfl)
theorem dX3_init_44 : decode cX3_init 44 = .ok (.newarray .int, 2) := dk_188_10 (dk_at dksX3_init_1 20 rfl rfl)
theorem dX3_init_46 : decode cX3_init 46 = .ok (.putfield 29, 3) := dk_181 0 29 (dk_at dksX3_init_2 0 rfl rfl)
theorem dX3_init_49 : decode cX3_init 49 = .ok (.aload_n 0, 1) := dk_42 (dk_at dksX3_init_2 3 rfl rfl)
theorem dX3_init_50 : decode cX3_init 50 = .ok (.iconst 5, 1) := dk_8 (dk_at dksX3_init_2 4 rfl rfl)
theorem dX3_init_51 : decode cX3_init 51 = .ok (.newarray .int, 2) := dk_188_10 (dk_at dksX3_init_2 5 rfl rfl)
theorem dX3_init_53 : decode cX3_init 53 = .ok (.putfield 32, 3) := dk_181 0 32 (dk_at dksX3_init_2 7 rfl rfl)
theorem dX3_init_56 : decode cX3_init 56 = .ok (.iconst 0, 1) := dk_3 (dk_at dksX3_init_2 10 rfl rfl)
theorem dX3_init_57 : decode cX3_init 57 = .ok (.istore_n 1, 1) := dk_60 (dk_at dksX3_init_2 11 rfl rfl)
theorem dX3_init_58 : decode cX3_init 58 = .ok (.iload_n 1, 1) := dk_27 (dk_at dksX3_init_2 12 rfl rfl)
theorem dX3_init_59 : decode cX3_init 59 = .ok (.bipush 24, 2) := dk_16 24 (dk_at dksX3_init_2 13 rfl rfl)
theorem dX3_init_61 : decode cX3_init 61 = .ok (.if_icmp .gt 35, 3) := dk_163 0 35 (dk_at dksX3_init_2 15 rfl rfl)
theorem dX3_init_64 : decode cX3_init 64 = .ok (.aload_n 0, 1) := dk_42 (dk_at dksX3_init_2 18 rfl rfl)
theorem dX3_init_65 : decode cX3_init 65 = .ok (.getfield 18, 3) := dk_180 0 18 (dk_at dksX3_init_2 19 rfl rfl)
theorem dX3_init_68 : decode cX3_init 68 = .ok (.iload_n 1, 1) := dk_27 (dk_at dksX3_init_2 22 rfl rfl)
theorem dX3_init_69 : decode cX3_init 69 = .ok (.new 9, 3) := dk_187 0 9 (dk_at dksX3_init_3 0 rfl rfl)
theorem dX3_init_72 : decode cX3_init 72 = .ok (.dup, 1) := dk_89 (dk_at dksX3_init_3 3 rfl rfl)
theorem dX3_init_73 : decode cX3_init 73 = .ok (.invokespecial 11, 3) := dk_183 0 11 (dk_at dksX3_init_3 4 rfl rfl)
theorem dX3_init_76 : decode cX3_init 76 = .ok (.aastore, 1) := dk_83 (dk_at dksX3_init_3 7 rfl rfl)
theorem dX3_init_77 : decode cX3_init 77 = .ok (.aload_n 0, 1) := dk_42 (dk_at dksX3_init_3 8 rfl rfl)
theorem dX3_init_78 : decode cX3_init 78 = .ok (.getfield 22, 3) := dk_180 0 22 (dk_at dksX3_init_3 9 rfl rfl)
theorem dX3_init_81 : decode cX3_init 81 = .ok (.iload_n 1, 1) := dk_27 (dk_at dksX3_init_3 12 rfl rfl)
theorem dX3_init_82 : decode cX3_init 82 = .ok (.new 9, 3) := dk_187 0 9 (dk_at dksX3_init_3 13 rfl rfl)
theorem dX3_init_85 : decode cX3_init 85 = .ok (.dup, 1) := dk_89 (dk_at dksX3_init_3 16 rfl rfl)
theorem dX3_init_86 : decode cX3_init 86 = .ok (.invokespecial 11, 3) := dk_183 0 11 (dk_at dksX3_init_3 17 rfl rfl)
theorem dX3_init_89 : decode cX3_init 89 = .ok (.aastore, 1) := dk_83 (dk_at dksX3_init_3 20 rfl rfl)
theorem dX3_init_90 : decode cX3_init 90 = .ok (.iinc 1 1, 3) := dk_132 1 1 (dk_at dksX3_init_3 21 rfl rfl)
theorem dX3_init_93 : decode cX3_init 93 = .ok (.goto (-35), 3) := dk_167 255 221 (dk_at dksX3_init_4 0 rfl rfl)
theorem dX3_init_96 : decode cX3_init 96 = .ok (.return_, 1) := dk_177 (dk_at dksX3_init_4 3 rfl rfl)
abbrev cX3_along : ByteArray := prog_12_method_14_code
def yX3_along : MethodName := ⟨RX3, "along", "(LPloughWills$Will;LPloughWills$Path;)V"⟩
def dkwX3_along_4 : List UInt8 := [181, 0, 52, 177]
abbrev dktX3_along_4 : List UInt8 := dkwX3_along_4 ++ []
def dkwX3_along_3 : List UInt8 := [154, 0, 27, 42, 182, 0, 105, 62, 42, 42, 180, 0, 49, 158, 0, 10, 43, 180, 0, 137, 167, 0, 4, 2]
abbrev dktX3_along_3 : List UInt8 := dkwX3_along_3 ++ dktX3_along_4
def dkwX3_along_2 : List UInt8 := [180, 0, 49, 158, 0, 7, 29, 167, 0, 4, 2, 181, 0, 52, 132, 3, 1, 167, 255, 201, 42, 180, 0, 49]
abbrev dktX3_along_2 : List UInt8 := dkwX3_along_2 ++ dktX3_along_3
def dkwX3_along_1 : List UInt8 := [180, 0, 147, 29, 51, 153, 0, 31, 42, 29, 4, 44, 180, 0, 152, 29, 51, 182, 0, 143, 42, 42]
abbrev dktX3_along_1 : List UInt8 := dkwX3_along_1 ++ dktX3_along_2
def dkwX3_along_0 : List UInt8 := [42, 43, 2, 182, 0, 134, 3, 62, 29, 43, 180, 0, 137, 162, 0, 53, 42, 180, 0, 49, 154, 0, 46, 44]
abbrev dktX3_along_0 : List UInt8 := dkwX3_along_0 ++ dktX3_along_1
theorem dksX3_along_0 : cX3_along.data.toList.drop 0 = dktX3_along_0 := by decide +kernel
theorem dksX3_along_1 : cX3_along.data.toList.drop 24 = dktX3_along_1 := dk_seg dksX3_along_0 24 rfl rfl
theorem dksX3_along_2 : cX3_along.data.toList.drop 46 = dktX3_along_2 := dk_seg dksX3_along_1 22 rfl rfl
theorem dksX3_along_3 : cX3_along.data.toList.drop 70 = dktX3_along_3 := dk_seg dksX3_along_2 24 rfl rfl
theorem dksX3_along_4 : cX3_along.data.toList.drop 94 = dktX3_along_4 := dk_seg dksX3_along_3 24 rfl rfl
theorem dX3_along_0 : decode cX3_along 0 = .ok (.aload_n 0, 1) := dk_42 (dk_at dksX3_along_0 0 rfl rfl)
theorem dX3_along_1 : decode cX3_along 1 = .ok (.aload_n 1, 1) := dk_43 (dk_at dksX3_along_0 1 rfl rfl)
theorem dX3_along_2 : decode cX3_along 2 = .ok (.iconst (-1), 1) := dk_2 (dk_at dksX3_along_0 2 rfl rfl)
theorem dX3_along_3 : decode cX3_along 3 = .ok (.invokevirtual 134, 3) := dk_182 0 134 (dk_at dksX3_along_0 3 rfl rfl)
theorem dX3_along_6 : decode cX3_along 6 = .ok (.iconst 0, 1) := dk_3 (dk_at dksX3_along_0 6 rfl rfl)
theorem dX3_along_7 : decode cX3_along 7 = .ok (.istore_n 3, 1) := dk_62 (dk_at dksX3_along_0 7 rfl rfl)
theorem dX3_along_8 : decode cX3_along 8 = .ok (.iload_n 3, 1) := dk_29 (dk_at dksX3_along_0 8 rfl rfl)
theorem dX3_along_9 : decode cX3_along 9 = .ok (.aload_n 1, 1) := dk_43 (dk_at dksX3_along_0 9 rfl rfl)
theorem dX3_along_10 : decode cX3_along 10 = .ok (.getfield 137, 3) := dk_180 0 137 (dk_at dksX3_along_0 10 rfl rfl)
theorem dX3_along_13 : decode cX3_along 13 = .ok (.if_icmp .ge 53, 3) := dk_162 0 53 (dk_at dksX3_along_0 13 rfl rfl)
theorem dX3_along_16 : decode cX3_along 16 = .ok (.aload_n 0, 1) := dk_42 (dk_at dksX3_along_0 16 rfl rfl)
theorem dX3_along_17 : decode cX3_along 17 = .ok (.getfield 49, 3) := dk_180 0 49 (dk_at dksX3_along_0 17 rfl rfl)
theorem dX3_along_20 : decode cX3_along 20 = .ok (.ifCond .ne 46, 3) := dk_154 0 46 (dk_at dksX3_along_0 20 rfl rfl)
theorem dX3_along_23 : decode cX3_along 23 = .ok (.aload_n 2, 1) := dk_44 (dk_at dksX3_along_0 23 rfl rfl)
theorem dX3_along_24 : decode cX3_along 24 = .ok (.getfield 147, 3) := dk_180 0 147 (dk_at dksX3_along_1 0 rfl rfl)
theorem dX3_along_27 : decode cX3_along 27 = .ok (.iload_n 3, 1) := dk_29 (dk_at dksX3_along_1 3 rfl rfl)
theorem dX3_along_28 : decode cX3_along 28 = .ok (.baload, 1) := dk_51 (dk_at dksX3_along_1 4 rfl rfl)
theorem dX3_along_29 : decode cX3_along 29 = .ok (.ifCond .eq 31, 3) := dk_153 0 31 (dk_at dksX3_along_1 5 rfl rfl)
theorem dX3_along_32 : decode cX3_along 32 = .ok (.aload_n 0, 1) := dk_42 (dk_at dksX3_along_1 8 rfl rfl)
theorem dX3_along_33 : decode cX3_along 33 = .ok (.iload_n 3, 1) := dk_29 (dk_at dksX3_along_1 9 rfl rfl)
theorem dX3_along_34 : decode cX3_along 34 = .ok (.iconst 1, 1) := dk_4 (dk_at dksX3_along_1 10 rfl rfl)
theorem dX3_along_35 : decode cX3_along 35 = .ok (.aload_n 2, 1) := dk_44 (dk_at dksX3_along_1 11 rfl rfl)
theorem dX3_along_36 : decode cX3_along 36 = .ok (.getfield 152, 3) := dk_180 0 152 (dk_at dksX3_along_1 12 rfl rfl)
theorem dX3_along_39 : decode cX3_along 39 = .ok (.iload_n 3, 1) := dk_29 (dk_at dksX3_along_1 15 rfl rfl)
theorem dX3_along_40 : decode cX3_along 40 = .ok (.baload, 1) := dk_51 (dk_at dksX3_along_1 16 rfl rfl)
theorem dX3_along_41 : decode cX3_along 41 = .ok (.invokevirtual 143, 3) := dk_182 0 143 (dk_at dksX3_along_1 17 rfl rfl)
theorem dX3_along_44 : decode cX3_along 44 = .ok (.aload_n 0, 1) := dk_42 (dk_at dksX3_along_1 20 rfl rfl)
theorem dX3_along_45 : decode cX3_along 45 = .ok (.aload_n 0, 1) := dk_42 (dk_at dksX3_along_1 21 rfl rfl)
theorem dX3_along_46 : decode cX3_along 46 = .ok (.getfield 49, 3) := dk_180 0 49 (dk_at dksX3_along_2 0 rfl rfl)
theorem dX3_along_49 : decode cX3_along 49 = .ok (.ifCond .le 7, 3) := dk_158 0 7 (dk_at dksX3_along_2 3 rfl rfl)
theorem dX3_along_52 : decode cX3_along 52 = .ok (.iload_n 3, 1) := dk_29 (dk_at dksX3_along_2 6 rfl rfl)
theorem dX3_along_53 : decode cX3_along 53 = .ok (.goto 4, 3) := dk_167 0 4 (dk_at dksX3_along_2 7 rfl rfl)
theorem dX3_along_56 : decode cX3_along 56 = .ok (.iconst (-1), 1) := dk_2 (dk_at dksX3_along_2 10 rfl rfl)
theorem dX3_along_57 : decode cX3_along 57 = .ok (.putfield 52, 3) := dk_181 0 52 (dk_at dksX3_along_2 11 rfl rfl)
theorem dX3_along_60 : decode cX3_along 60 = .ok (.iinc 3 1, 3) := dk_132 3 1 (dk_at dksX3_along_2 14 rfl rfl)
theorem dX3_along_63 : decode cX3_along 63 = .ok (.goto (-55), 3) := dk_167 255 201 (dk_at dksX3_along_2 17 rfl rfl)
theorem dX3_along_66 : decode cX3_along 66 = .ok (.aload_n 0, 1) := dk_42 (dk_at dksX3_along_2 20 rfl rfl)
theorem dX3_along_67 : decode cX3_along 67 = .ok (.getfield 49, 3) := dk_180 0 49 (dk_at dksX3_along_2 21 rfl rfl)
theorem dX3_along_70 : decode cX3_along 70 = .ok (.ifCond .ne 27, 3) := dk_154 0 27 (dk_at dksX3_along_3 0 rfl rfl)
theorem dX3_along_73 : decode cX3_along 73 = .ok (.aload_n 0, 1) := dk_42 (dk_at dksX3_along_3 3 rfl rfl)
theorem dX3_along_74 : decode cX3_along 74 = .ok (.invokevirtual 105, 3) := dk_182 0 105 (dk_at dksX3_along_3 4 rfl rfl)
theorem dX3_along_77 : decode cX3_along 77 = .ok (.istore_n 3, 1) := dk_62 (dk_at dksX3_along_3 7 rfl rfl)
theorem dX3_along_78 : decode cX3_along 78 = .ok (.aload_n 0, 1) := dk_42 (dk_at dksX3_along_3 8 rfl rfl)
theorem dX3_along_79 : decode cX3_along 79 = .ok (.aload_n 0, 1) := dk_42 (dk_at dksX3_along_3 9 rfl rfl)
theorem dX3_along_80 : decode cX3_along 80 = .ok (.getfield 49, 3) := dk_180 0 49 (dk_at dksX3_along_3 10 rfl rfl)
theorem dX3_along_83 : decode cX3_along 83 = .ok (.ifCond .le 10, 3) := dk_158 0 10 (dk_at dksX3_along_3 13 rfl rfl)
theorem dX3_along_86 : decode cX3_along 86 = .ok (.aload_n 1, 1) := dk_43 (dk_at dksX3_along_3 16 rfl rfl)
theorem dX3_along_87 : decode cX3_along 87 = .ok (.getfield 137, 3) := dk_180 0 137 (dk_at dksX3_along_3 17 rfl rfl)
theorem dX3_along_90 : decode cX3_along 90 = .ok (.goto 4, 3) := dk_167 0 4 (dk_at dksX3_along_3 20 rfl rfl)
theorem dX3_along_93 : decode cX3_along 93 = .ok (.iconst (-1), 1) := dk_2 (dk_at dksX3_along_3 23 rfl rfl)
theorem dX3_along_94 : decode cX3_along 94 = .ok (.putfield 52, 3) := dk_181 0 52 (dk_at dksX3_along_4 0 rfl rfl)
theorem dX3_along_97 : decode cX3_along 97 = .ok (.return_, 1) := dk_177 (dk_at dksX3_along_4 3 rfl rfl)
abbrev cX3_begins : ByteArray := prog_12_method_2_code
def yX3_begins : MethodName := ⟨RX3, "begins", "(LPloughWills$Will;I)V"⟩
def dkwX3_begins_1 : List UInt8 := [181, 0, 49, 42, 2, 181, 0, 52, 42, 2, 181, 0, 55, 177]
abbrev dktX3_begins_1 : List UInt8 := dkwX3_begins_1 ++ []
def dkwX3_begins_0 : List UInt8 := [42, 43, 181, 0, 35, 42, 28, 181, 0, 39, 42, 180, 0, 12, 182, 0, 43, 42, 3, 181, 0, 46, 42, 3]
abbrev dktX3_begins_0 : List UInt8 := dkwX3_begins_0 ++ dktX3_begins_1
theorem dksX3_begins_0 : cX3_begins.data.toList.drop 0 = dktX3_begins_0 := by decide +kernel
theorem dksX3_begins_1 : cX3_begins.data.toList.drop 24 = dktX3_begins_1 := dk_seg dksX3_begins_0 24 rfl rfl
theorem dX3_begins_0 : decode cX3_begins 0 = .ok (.aload_n 0, 1) := dk_42 (dk_at dksX3_begins_0 0 rfl rfl)
theorem dX3_begins_1 : decode cX3_begins 1 = .ok (.aload_n 1, 1) := dk_43 (dk_at dksX3_begins_0 1 rfl rfl)
theorem dX3_begins_2 : decode cX3_begins 2 = .ok (.putfield 35, 3) := dk_181 0 35 (dk_at dksX3_begins_0 2 rfl rfl)
theorem dX3_begins_5 : decode cX3_begins 5 = .ok (.aload_n 0, 1) := dk_42 (dk_at dksX3_begins_0 5 rfl rfl)
theorem dX3_begins_6 : decode cX3_begins 6 = .ok (.iload_n 2, 1) := dk_28 (dk_at dksX3_begins_0 6 rfl rfl)
theorem dX3_begins_7 : decode cX3_begins 7 = .ok (.putfield 39, 3) := dk_181 0 39 (dk_at dksX3_begins_0 7 rfl rfl)
theorem dX3_begins_10 : decode cX3_begins 10 = .ok (.aload_n 0, 1) := dk_42 (dk_at dksX3_begins_0 10 rfl rfl)
theorem dX3_begins_11 : decode cX3_begins 11 = .ok (.getfield 12, 3) := dk_180 0 12 (dk_at dksX3_begins_0 11 rfl rfl)
theorem dX3_begins_14 : decode cX3_begins 14 = .ok (.invokevirtual 43, 3) := dk_182 0 43 (dk_at dksX3_begins_0 14 rfl rfl)
theorem dX3_begins_17 : decode cX3_begins 17 = .ok (.aload_n 0, 1) := dk_42 (dk_at dksX3_begins_0 17 rfl rfl)
theorem dX3_begins_18 : decode cX3_begins 18 = .ok (.iconst 0, 1) := dk_3 (dk_at dksX3_begins_0 18 rfl rfl)
theorem dX3_begins_19 : decode cX3_begins 19 = .ok (.putfield 46, 3) := dk_181 0 46 (dk_at dksX3_begins_0 19 rfl rfl)
theorem dX3_begins_22 : decode cX3_begins 22 = .ok (.aload_n 0, 1) := dk_42 (dk_at dksX3_begins_0 22 rfl rfl)
theorem dX3_begins_23 : decode cX3_begins 23 = .ok (.iconst 0, 1) := dk_3 (dk_at dksX3_begins_0 23 rfl rfl)
theorem dX3_begins_24 : decode cX3_begins 24 = .ok (.putfield 49, 3) := dk_181 0 49 (dk_at dksX3_begins_1 0 rfl rfl)
theorem dX3_begins_27 : decode cX3_begins 27 = .ok (.aload_n 0, 1) := dk_42 (dk_at dksX3_begins_1 3 rfl rfl)
theorem dX3_begins_28 : decode cX3_begins 28 = .ok (.iconst (-1), 1) := dk_2 (dk_at dksX3_begins_1 4 rfl rfl)
theorem dX3_begins_29 : decode cX3_begins 29 = .ok (.putfield 52, 3) := dk_181 0 52 (dk_at dksX3_begins_1 5 rfl rfl)
theorem dX3_begins_32 : decode cX3_begins 32 = .ok (.aload_n 0, 1) := dk_42 (dk_at dksX3_begins_1 8 rfl rfl)
theorem dX3_begins_33 : decode cX3_begins 33 = .ok (.iconst (-1), 1) := dk_2 (dk_at dksX3_begins_1 9 rfl rfl)
theorem dX3_begins_34 : decode cX3_begins 34 = .ok (.putfield 55, 3) := dk_181 0 55 (dk_at dksX3_begins_1 10 rfl rfl)
theorem dX3_begins_37 : decode cX3_begins 37 = .ok (.return_, 1) := dk_177 (dk_at dksX3_begins_1 13 rfl rfl)
abbrev cX3_goes : ByteArray := prog_12_method_11_code
def yX3_goes : MethodName := ⟨RX3, "goes", "(IZZ)V"⟩
def dkwX3_goes_13 : List UInt8 := [182, 0, 126, 42, 89, 180, 0, 46, 4, 100, 181, 0, 46, 177]
abbrev dktX3_goes_13 : List UInt8 := dkwX3_goes_13 ++ []
def dkwX3_goes_12 : List UInt8 := [154, 0, 10, 42, 182, 0, 105, 153, 0, 30, 28, 154, 0, 16, 42, 42, 180, 0, 22, 42, 180, 0, 46, 50]
abbrev dktX3_goes_12 : List UInt8 := dkwX3_goes_12 ++ dktX3_goes_13
def dkwX3_goes_11 : List UInt8 := [180, 0, 46, 50, 182, 0, 122, 167, 0, 54, 42, 16, 9, 182, 0, 101, 154, 0, 45, 28, 153, 0, 7, 29]
abbrev dktX3_goes_11 : List UInt8 := dkwX3_goes_11 ++ dktX3_goes_12
def dkwX3_goes_10 : List UInt8 := [180, 0, 25, 42, 180, 0, 46, 16, 9, 79, 28, 154, 0, 73, 42, 180, 0, 12, 42, 180, 0, 18, 42]
abbrev dktX3_goes_10 : List UInt8 := dkwX3_goes_10 ++ dktX3_goes_11
def dkwX3_goes_9 : List UInt8 := [182, 0, 105, 153, 0, 104, 42, 180, 0, 22, 42, 180, 0, 46, 50, 42, 180, 0, 12, 182, 0, 122, 42]
abbrev dktX3_goes_9 : List UInt8 := dkwX3_goes_9 ++ dktX3_goes_10
def dkwX3_goes_8 : List UInt8 := [182, 0, 122, 167, 0, 128, 42, 16, 8, 182, 0, 101, 154, 0, 119, 28, 153, 0, 7, 29, 153, 0, 10, 42]
abbrev dktX3_goes_8 : List UInt8 := dkwX3_goes_8 ++ dktX3_goes_9
def dkwX3_goes_7 : List UInt8 := [87, 167, 0, 153, 42, 16, 8, 182, 0, 97, 42, 180, 0, 18, 42, 180, 0, 46, 50, 42, 180, 0, 12]
abbrev dktX3_goes_7 : List UInt8 := dkwX3_goes_7 ++ dktX3_goes_8
def dkwX3_goes_6 : List UInt8 := [180, 0, 12, 180, 0, 80, 21, 4, 46, 2, 160, 0, 7, 4, 167, 0, 4, 3, 8, 21, 4, 182, 0, 73]
abbrev dktX3_goes_6 : List UInt8 := dkwX3_goes_6 ++ dktX3_goes_7
def dkwX3_goes_5 : List UInt8 := [180, 0, 94, 27, 46, 8, 160, 0, 7, 4, 167, 0, 4, 3, 182, 0, 118, 167, 0, 183, 42, 42]
abbrev dktX3_goes_5 : List UInt8 := dkwX3_goes_5 ++ dktX3_goes_6
def dkwX3_goes_4 : List UInt8 := [182, 0, 112, 167, 0, 219, 42, 21, 4, 42, 180, 0, 35, 180, 0, 115, 27, 46, 42, 180, 0, 35]
abbrev dktX3_goes_4 : List UInt8 := dkwX3_goes_4 ++ dktX3_goes_5
def dkwX3_goes_3 : List UInt8 := [89, 180, 0, 46, 4, 100, 181, 0, 46, 167, 0, 237, 42, 21, 4, 182, 0, 109, 167, 0, 228, 42, 21, 4]
abbrev dktX3_goes_3 : List UInt8 := dkwX3_goes_3 ++ dktX3_goes_4
def dkwX3_goes_2 : List UInt8 := [42, 4, 182, 0, 97, 167, 1, 9, 42, 4, 182, 0, 101, 154, 1, 1, 42, 182, 0, 105, 153, 0, 250, 42]
abbrev dktX3_goes_2 : List UInt8 := dkwX3_goes_2 ++ dktX3_goes_3
def dkwX3_goes_1 : List UInt8 := [170, 0, 0, 0, 0, 0, 1, 15, 0, 0, 0, 0, 0, 0, 0, 8, 0, 0, 0, 52, 0, 0, 0, 60, 0, 0, 0, 88, 0, 0, 0, 97, 0, 0, 0, 106, 0, 0, 0, 106, 0, 0, 0, 142, 0, 0, 0, 172, 0, 0, 0, 197]
abbrev dktX3_goes_1 : List UInt8 := dkwX3_goes_1 ++ dktX3_goes_2
def dkwX3_goes_0 : List UInt8 := [42, 180, 0, 35, 180, 0, 91, 27, 46, 54, 4, 42, 180, 0, 35, 180, 0, 94, 27, 46]
abbrev dktX3_goes_0 : List UInt8 := dkwX3_goes_0 ++ dktX3_goes_1
theorem dksX3_goes_0 : cX3_goes.data.toList.drop 0 = dktX3_goes_0 := by decide +kernel
theorem dksX3_goes_1 : cX3_goes.data.toList.drop 20 = dktX3_goes_1 := dk_seg dksX3_goes_0 20 rfl rfl
theorem dksX3_goes_2 : cX3_goes.data.toList.drop 72 = dktX3_goes_2 := dk_seg dksX3_goes_1 52 rfl rfl
theorem dksX3_goes_3 : cX3_goes.data.toList.drop 96 = dktX3_goes_3 := dk_seg dksX3_goes_2 24 rfl rfl
theorem dksX3_goes_4 : cX3_goes.data.toList.drop 120 = dktX3_goes_4 := dk_seg dksX3_goes_3 24 rfl rfl
theorem dksX3_goes_5 : cX3_goes.data.toList.drop 142 = dktX3_goes_5 := dk_seg dksX3_goes_4 22 rfl rfl
theorem dksX3_goes_6 : cX3_goes.data.toList.drop 164 = dktX3_goes_6 := dk_seg dksX3_goes_5 22 rfl rfl
theorem dksX3_goes_7 : cX3_goes.data.toList.drop 188 = dktX3_goes_7 := dk_seg dksX3_goes_6 24 rfl rfl
theorem dksX3_goes_8 : cX3_goes.data.toList.drop 211 = dktX3_goes_8 := dk_seg dksX3_goes_7 23 rfl rfl
theorem dksX3_goes_9 : cX3_goes.data.toList.drop 235 = dktX3_goes_9 := dk_seg dksX3_goes_8 24 rfl rfl
theorem dksX3_goes_10 : cX3_goes.data.toList.drop 258 = dktX3_goes_10 := dk_seg dksX3_goes_9 23 rfl rfl
theorem dksX3_goes_11 : cX3_goes.data.toList.drop 281 = dktX3_goes_11 := dk_seg dksX3_goes_10 23 rfl rfl
theorem dksX3_goes_12 : cX3_goes.data.toList.drop 305 = dktX3_goes_12 := dk_seg dksX3_goes_11 24 rfl rfl
theorem dksX3_goes_13 : cX3_goes.data.toList.drop 329 = dktX3_goes_13 := dk_seg dksX3_goes_12 24 rfl rfl
theorem dX3_goes_0 : decode cX3_goes 0 = .ok (.aload_n 0, 1) := dk_42 (dk_at dksX3_goes_0 0 rfl rfl)
theorem dX3_goes_1 : decode cX3_goes 1 = .ok (.getfield 35, 3) := dk_180 0 35 (dk_at dksX3_goes_0 1 rfl rfl)
theorem dX3_goes_4 : decode cX3_goes 4 = .ok (.getfield 91, 3) := dk_180 0 91 (dk_at dksX3_goes_0 4 rfl rfl)
theorem dX3_goes_7 : decode cX3_goes 7 = .ok (.iload_n 1, 1) := dk_27 (dk_at dksX3_goes_0 7 rfl rfl)
theorem dX3_goes_8 : decode cX3_goes 8 = .ok (.iaload, 1) := dk_46 (dk_at dksX3_goes_0 8 rfl rfl)
theorem dX3_goes_9 : decode cX3_goes 9 = .ok (.istore 4, 2) := dk_54 4 (dk_at dksX3_goes_0 9 rfl rfl)
theorem dX3_goes_11 : decode cX3_goes 11 = .ok (.aload_n 0, 1) := dk_42 (dk_at dksX3_goes_0 11 rfl rfl)
theorem dX3_goes_12 : decode cX3_goes 12 = .ok (.getfield 35, 3) := dk_180 0 35 (dk_at dksX3_goes_0 12 rfl rfl)
theorem dX3_goes_15 : decode cX3_goes 15 = .ok (.getfield 94, 3) := dk_180 0 94 (dk_at dksX3_goes_0 15 rfl rfl)
theorem dX3_goes_18 : decode cX3_goes 18 = .ok (.iload_n 1, 1) := dk_27 (dk_at dksX3_goes_0 18 rfl rfl)
theorem dX3_goes_19 : decode cX3_goes 19 = .ok (.iaload, 1) := dk_46 (dk_at dksX3_goes_0 19 rfl rfl)
theorem dX3_goes_20 : decode cX3_goes 20 = .ok (.tableswitch 271 0 8 #[52, 60, 88, 97, 106, 106, 142, 172, 197], 52) := by decide +kernel
theorem dX3_goes_72 : decode cX3_goes 72 = .ok (.aload_n 0, 1) := dk_42 (dk_at dksX3_goes_2 0 rfl rfl)
theorem dX3_goes_73 : decode cX3_goes 73 = .ok (.iconst 1, 1) := dk_4 (dk_at dksX3_goes_2 1 rfl rfl)
theorem dX3_goes_74 : decode cX3_goes 74 = .ok (.invokevirtual 97, 3) := dk_182 0 97 (dk_at dksX3_goes_2 2 rfl rfl)
theorem dX3_goes_77 : decode cX3_goes 77 = .ok (.goto 265, 3) := dk_167 1 9 (dk_at dksX3_goes_2 5 rfl rfl)
theorem dX3_goes_80 : decode cX3_goes 80 = .ok (.aload_n 0, 1) := dk_42 (dk_at dksX3_goes_2 8 rfl rfl)
theorem dX3_goes_81 : decode cX3_goes 81 = .ok (.iconst 1, 1) := dk_4 (dk_at dksX3_goes_2 9 rfl rfl)
theorem dX3_goes_82 : decode cX3_goes 82 = .ok (.invokevirtual 101, 3) := dk_182 0 101 (dk_at dksX3_goes_2 10 rfl rfl)
theorem dX3_goes_85 : decode cX3_goes 85 = .ok (.ifCond .ne 257, 3) := dk_154 1 1 (dk_at dksX3_goes_2 13 rfl rfl)
theorem dX3_goes_88 : decode cX3_goes 88 = .ok (.aload_n 0, 1) := dk_42 (dk_at dksX3_goes_2 16 rfl rfl)
theorem dX3_goes_89 : decode cX3_goes 89 = .ok (.invokevirtual 105, 3) := dk_182 0 105 (dk_at dksX3_goes_2 17 rfl rfl)
theorem dX3_goes_92 : decode cX3_goes 92 = .ok (.ifCond .eq 250, 3) := dk_153 0 250 (dk_at dksX3_goes_2 20 rfl rfl)
theorem dX3_goes_95 : decode cX3_goes 95 = .ok (.aload_n 0, 1) := dk_42 (dk_at dksX3_goes_2 23 rfl rfl)
theorem dX3_goes_96 : decode cX3_goes 96 = .ok (.dup, 1) := dk_89 (dk_at dksX3_goes_3 0 rfl rfl)
theorem dX3_goes_97 : decode cX3_goes 97 = .ok (.getfield 46, 3) := dk_180 0 46 (dk_at dksX3_goes_3 1 rfl rfl)
theorem dX3_goes_100 : decode cX3_goes 100 = .ok (.iconst 1, 1) := dk_4 (dk_at dksX3_goes_3 4 rfl rfl)
theorem dX3_goes_101 : decode cX3_goes 101 = .ok (.isub, 1) := dk_100 (dk_at dksX3_goes_3 5 rfl rfl)
theorem dX3_goes_102 : decode cX3_goes 102 = .ok (.putfield 46, 3) := dk_181 0 46 (dk_at dksX3_goes_3 6 rfl rfl)
theorem dX3_goes_105 : decode cX3_goes 105 = .ok (.goto 237, 3) := dk_167 0 237 (dk_at dksX3_goes_3 9 rfl rfl)
theorem dX3_goes_108 : decode cX3_goes 108 = .ok (.aload_n 0, 1) := dk_42 (dk_at dksX3_goes_3 12 rfl rfl)
theorem dX3_goes_109 : decode cX3_goes 109 = .ok (.iload 4, 2) := dk_21 4 (dk_at dksX3_goes_3 13 rfl rfl)
theorem dX3_goes_111 : decode cX3_goes 111 = .ok (.invokevirtual 109, 3) := dk_182 0 109 (dk_at dksX3_goes_3 15 rfl rfl)
theorem dX3_goes_114 : decode cX3_goes 114 = .ok (.goto 228, 3) := dk_167 0 228 (dk_at dksX3_goes_3 18 rfl rfl)
theorem dX3_goes_117 : decode cX3_goes 117 = .ok (.aload_n 0, 1) := dk_42 (dk_at dksX3_goes_3 21 rfl rfl)
theorem dX3_goes_118 : decode cX3_goes 118 = .ok (.iload 4, 2) := dk_21 4 (dk_at dksX3_goes_3 22 rfl rfl)
theorem dX3_goes_120 : decode cX3_goes 120 = .ok (.invokevirtual 112, 3) := dk_182 0 112 (dk_at dksX3_goes_4 0 rfl rfl)
theorem dX3_goes_123 : decode cX3_goes 123 = .ok (.goto 219, 3) := dk_167 0 219 (dk_at dksX3_goes_4 3 rfl rfl)
theorem dX3_goes_126 : decode cX3_goes 126 = .ok (.aload_n 0, 1) := dk_42 (dk_at dksX3_goes_4 6 rfl rfl)
theorem dX3_goes_127 : decode cX3_goes 127 = .ok (.iload 4, 2) := dk_21 4 (dk_at dksX3_goes_4 7 rfl rfl)
theorem dX3_goes_129 : decode cX3_goes 129 = .ok (.aload_n 0, 1) := dk_42 (dk_at dksX3_goes_4 9 rfl rfl)
theorem dX3_goes_130 : decode cX3_goes 130 = .ok (.getfield 35, 3) := dk_180 0 35 (dk_at dksX3_goes_4 10 rfl rfl)
theorem dX3_goes_133 : decode cX3_goes 133 = .ok (.getfield 115, 3) := dk_180 0 115 (dk_at dksX3_goes_4 13 rfl rfl)
theorem dX3_goes_136 : decode cX3_goes 136 = .ok (.iload_n 1, 1) := dk_27 (dk_at dksX3_goes_4 16 rfl rfl)
theorem dX3_goes_137 : decode cX3_goes 137 = .ok (.iaload, 1) := dk_46 (dk_at dksX3_goes_4 17 rfl rfl)
theorem dX3_goes_138 : decode cX3_goes 138 = .ok (.aload_n 0, 1) := dk_42 (dk_at dksX3_goes_4 18 rfl rfl)
theorem dX3_goes_139 : decode cX3_goes 139 = .ok (.getfield 35, 3) := dk_180 0 35 (dk_at dksX3_goes_4 19 rfl rfl)
theorem dX3_goes_142 : decode cX3_goes 142 = .ok (.getfield 94, 3) := dk_180 0 94 (dk_at dksX3_goes_5 0 rfl rfl)
theorem dX3_goes_145 : decode cX3_goes 145 = .ok (.iload_n 1, 1) := dk_27 (dk_at dksX3_goes_5 3 rfl rfl)
theorem dX3_goes_146 : decode cX3_goes 146 = .ok (.iaload, 1) := dk_46 (dk_at dksX3_goes_5 4 rfl rfl)
theorem dX3_goes_147 : decode cX3_goes 147 = .ok (.iconst 5, 1) := dk_8 (dk_at dksX3_goes_5 5 rfl rfl)
theorem dX3_goes_148 : decode cX3_goes 148 = .ok (.if_icmp .ne 7, 3) := dk_160 0 7 (dk_at dksX3_goes_5 6 rfl rfl)
theorem dX3_goes_151 : decode cX3_goes 151 = .ok (.iconst 1, 1) := dk_4 (dk_at dksX3_goes_5 9 rfl rfl)
theorem dX3_goes_152 : decode cX3_goes 152 = .ok (.goto 4, 3) := dk_167 0 4 (dk_at dksX3_goes_5 10 rfl rfl)
theorem dX3_goes_155 : decode cX3_goes 155 = .ok (.iconst 0, 1) := dk_3 (dk_at dksX3_goes_5 13 rfl rfl)
theorem dX3_goes_156 : decode cX3_goes 156 = .ok (.invokevirtual 118, 3) := dk_182 0 118 (dk_at dksX3_goes_5 14 rfl rfl)
theorem dX3_goes_159 : decode cX3_goes 159 = .ok (.goto 183, 3) := dk_167 0 183 (dk_at dksX3_goes_5 17 rfl rfl)
theorem dX3_goes_162 : decode cX3_goes 162 = .ok (.aload_n 0, 1) := dk_42 (dk_at dksX3_goes_5 20 rfl rfl)
theorem dX3_goes_163 : decode cX3_goes 163 = .ok (.aload_n 0, 1) := dk_42 (dk_at dksX3_goes_5 21 rfl rfl)
theorem dX3_goes_164 : decode cX3_goes 164 = .ok (.getfield 12, 3) := dk_180 0 12 (dk_at dksX3_goes_6 0 rfl rfl)
theorem dX3_goes_167 : decode cX3_goes 167 = .ok (.getfield 80, 3) := dk_180 0 80 (dk_at dksX3_goes_6 3 rfl rfl)
theorem dX3_goes_170 : decode cX3_goes 170 = .ok (.iload 4, 2) := dk_21 4 (dk_at dksX3_goes_6 6 rfl rfl)
theorem dX3_goes_172 : decode cX3_goes 172 = .ok (.iaload, 1) := dk_46 (dk_at dksX3_goes_6 8 rfl rfl)
theorem dX3_goes_173 : decode cX3_goes 173 = .ok (.iconst (-1), 1) := dk_2 (dk_at dksX3_goes_6 9 rfl rfl)
theorem dX3_goes_174 : decode cX3_goes 174 = .ok (.if_icmp .ne 7, 3) := dk_160 0 7 (dk_at dksX3_goes_6 10 rfl rfl)
theorem dX3_goes_177 : decode cX3_goes 177 = .ok (.iconst 1, 1) := dk_4 (dk_at dksX3_goes_6 13 rfl rfl)
theorem dX3_goes_178 : decode cX3_goes 178 = .ok (.goto 4, 3) := dk_167 0 4 (dk_at dksX3_goes_6 14 rfl rfl)
theorem dX3_goes_181 : decode cX3_goes 181 = .ok (.iconst 0, 1) := dk_3 (dk_at dksX3_goes_6 17 rfl rfl)
theorem dX3_goes_182 : decode cX3_goes 182 = .ok (.iconst 5, 1) := dk_8 (dk_at dksX3_goes_6 18 rfl rfl)
theorem dX3_goes_183 : decode cX3_goes 183 = .ok (.iload 4, 2) := dk_21 4 (dk_at dksX3_goes_6 19 rfl rfl)
theorem dX3_goes_185 : decode cX3_goes 185 = .ok (.invokevirtual 73, 3) := dk_182 0 73 (dk_at dksX3_goes_6 21 rfl rfl)
theorem dX3_goes_188 : decode cX3_goes 188 = .ok (.pop, 1) := dk_87 (dk_at dksX3_goes_7 0 rfl rfl)
theorem dX3_goes_189 : decode cX3_goes 189 = .ok (.goto 153, 3) := dk_167 0 153 (dk_at dksX3_goes_7 1 rfl rfl)
theorem dX3_goes_192 : decode cX3_goes 192 = .ok (.aload_n 0, 1) := dk_42 (dk_at dksX3_goes_7 4 rfl rfl)
theorem dX3_goes_193 : decode cX3_goes 193 = .ok (.bipush 8, 2) := dk_16 8 (dk_at dksX3_goes_7 5 rfl rfl)
theorem dX3_goes_195 : decode cX3_goes 195 = .ok (.invokevirtual 97, 3) := dk_182 0 97 (dk_at dksX3_goes_7 7 rfl rfl)
theorem dX3_goes_198 : decode cX3_goes 198 = .ok (.aload_n 0, 1) := dk_42 (dk_at dksX3_goes_7 10 rfl rfl)
theorem dX3_goes_199 : decode cX3_goes 199 = .ok (.getfield 18, 3) := dk_180 0 18 (dk_at dksX3_goes_7 11 rfl rfl)
theorem dX3_goes_202 : decode cX3_goes 202 = .ok (.aload_n 0, 1) := dk_42 (dk_at dksX3_goes_7 14 rfl rfl)
theorem dX3_goes_203 : decode cX3_goes 203 = .ok (.getfield 46, 3) := dk_180 0 46 (dk_at dksX3_goes_7 15 rfl rfl)
theorem dX3_goes_206 : decode cX3_goes 206 = .ok (.aaload, 1) := dk_50 (dk_at dksX3_goes_7 18 rfl rfl)
theorem dX3_goes_207 : decode cX3_goes 207 = .ok (.aload_n 0, 1) := dk_42 (dk_at dksX3_goes_7 19 rfl rfl)
theorem dX3_goes_208 : decode cX3_goes 208 = .ok (.getfield 12, 3) := dk_180 0 12 (dk_at dksX3_goes_7 20 rfl rfl)
theorem dX3_goes_211 : decode cX3_goes 211 = .ok (.invokevirtual 122, 3) := dk_182 0 122 (dk_at dksX3_goes_8 0 rfl rfl)
theorem dX3_goes_214 : decode cX3_goes 214 = .ok (.goto 128, 3) := dk_167 0 128 (dk_at dksX3_goes_8 3 rfl rfl)
theorem dX3_goes_217 : decode cX3_goes 217 = .ok (.aload_n 0, 1) := dk_42 (dk_at dksX3_goes_8 6 rfl rfl)
theorem dX3_goes_218 : decode cX3_goes 218 = .ok (.bipush 8, 2) := dk_16 8 (dk_at dksX3_goes_8 7 rfl rfl)
theorem dX3_goes_220 : decode cX3_goes 220 = .ok (.invokevirtual 101, 3) := dk_182 0 101 (dk_at dksX3_goes_8 9 rfl rfl)
theorem dX3_goes_223 : decode cX3_goes 223 = .ok (.ifCond .ne 119, 3) := dk_154 0 119 (dk_at dksX3_goes_8 12 rfl rfl)
theorem dX3_goes_226 : decode cX3_goes 226 = .ok (.iload_n 2, 1) := dk_28 (dk_at dksX3_goes_8 15 rfl rfl)
theorem dX3_goes_227 : decode cX3_goes 227 = .ok (.ifCond .eq 7, 3) := dk_153 0 7 (dk_at dksX3_goes_8 16 rfl rfl)
theorem dX3_goes_230 : decode cX3_goes 230 = .ok (.iload_n 3, 1) := dk_29 (dk_at dksX3_goes_8 19 rfl rfl)
theorem dX3_goes_231 : decode cX3_goes 231 = .ok (.ifCond .eq 10, 3) := dk_153 0 10 (dk_at dksX3_goes_8 20 rfl rfl)
theorem dX3_goes_234 : decode cX3_goes 234 = .ok (.aload_n 0, 1) := dk_42 (dk_at dksX3_goes_8 23 rfl rfl)
theorem dX3_goes_235 : decode cX3_goes 235 = .ok (.invokevirtual 105, 3) := dk_182 0 105 (dk_at dksX3_goes_9 0 rfl rfl)
theorem dX3_goes_238 : decode cX3_goes 238 = .ok (.ifCond .eq 104, 3) := dk_153 0 104 (dk_at dksX3_goes_9 3 rfl rfl)
theorem dX3_goes_241 : decode cX3_goes 241 = .ok (.aload_n 0, 1) := dk_42 (dk_at dksX3_goes_9 6 rfl rfl)
theorem dX3_goes_242 : decode cX3_goes 242 = .ok (.getfield 22, 3) := dk_180 0 22 (dk_at dksX3_goes_9 7 rfl rfl)
theorem dX3_goes_245 : decode cX3_goes 245 = .ok (.aload_n 0, 1) := dk_42 (dk_at dksX3_goes_9 10 rfl rfl)
theorem dX3_goes_246 : decode cX3_goes 246 = .ok (.getfield 46, 3) := dk_180 0 46 (dk_at dksX3_goes_9 11 rfl rfl)
theorem dX3_goes_249 : decode cX3_goes 249 = .ok (.aaload, 1) := dk_50 (dk_at dksX3_goes_9 14 rfl rfl)
theorem dX3_goes_250 : decode cX3_goes 250 = .ok (.aload_n 0, 1) := dk_42 (dk_at dksX3_goes_9 15 rfl rfl)
theorem dX3_goes_251 : decode cX3_goes 251 = .ok (.getfield 12, 3) := dk_180 0 12 (dk_at dksX3_goes_9 16 rfl rfl)
theorem dX3_goes_254 : decode cX3_goes 254 = .ok (.invokevirtual 122, 3) := dk_182 0 122 (dk_at dksX3_goes_9 19 rfl rfl)
theorem dX3_goes_257 : decode cX3_goes 257 = .ok (.aload_n 0, 1) := dk_42 (dk_at dksX3_goes_9 22 rfl rfl)
theorem dX3_goes_258 : decode cX3_goes 258 = .ok (.getfield 25, 3) := dk_180 0 25 (dk_at dksX3_goes_10 0 rfl rfl)
theorem dX3_goes_261 : decode cX3_goes 261 = .ok (.aload_n 0, 1) := dk_42 (dk_at dksX3_goes_10 3 rfl rfl)
theorem dX3_goes_262 : decode cX3_goes 262 = .ok (.getfield 46, 3) := dk_180 0 46 (dk_at dksX3_goes_10 4 rfl rfl)
theorem dX3_goes_265 : decode cX3_goes 265 = .ok (.bipush 9, 2) := dk_16 9 (dk_at dksX3_goes_10 7 rfl rfl)
theorem dX3_goes_267 : decode cX3_goes 267 = .ok (.iastore, 1) := dk_79 (dk_at dksX3_goes_10 9 rfl rfl)
theorem dX3_goes_268 : decode cX3_goes 268 = .ok (.iload_n 2, 1) := dk_28 (dk_at dksX3_goes_10 10 rfl rfl)
theorem dX3_goes_269 : decode cX3_goes 269 = .ok (.ifCond .ne 73, 3) := dk_154 0 73 (dk_at dksX3_goes_10 11 rfl rfl)
theorem dX3_goes_272 : decode cX3_goes 272 = .ok (.aload_n 0, 1) := dk_42 (dk_at dksX3_goes_10 14 rfl rfl)
theorem dX3_goes_273 : decode cX3_goes 273 = .ok (.getfield 12, 3) := dk_180 0 12 (dk_at dksX3_goes_10 15 rfl rfl)
theorem dX3_goes_276 : decode cX3_goes 276 = .ok (.aload_n 0, 1) := dk_42 (dk_at dksX3_goes_10 18 rfl rfl)
theorem dX3_goes_277 : decode cX3_goes 277 = .ok (.getfield 18, 3) := dk_180 0 18 (dk_at dksX3_goes_10 19 rfl rfl)
theorem dX3_goes_280 : decode cX3_goes 280 = .ok (.aload_n 0, 1) := dk_42 (dk_at dksX3_goes_10 22 rfl rfl)
theorem dX3_goes_281 : decode cX3_goes 281 = .ok (.getfield 46, 3) := dk_180 0 46 (dk_at dksX3_goes_11 0 rfl rfl)
theorem dX3_goes_284 : decode cX3_goes 284 = .ok (.aaload, 1) := dk_50 (dk_at dksX3_goes_11 3 rfl rfl)
theorem dX3_goes_285 : decode cX3_goes 285 = .ok (.invokevirtual 122, 3) := dk_182 0 122 (dk_at dksX3_goes_11 4 rfl rfl)
theorem dX3_goes_288 : decode cX3_goes 288 = .ok (.goto 54, 3) := dk_167 0 54 (dk_at dksX3_goes_11 7 rfl rfl)
theorem dX3_goes_291 : decode cX3_goes 291 = .ok (.aload_n 0, 1) := dk_42 (dk_at dksX3_goes_11 10 rfl rfl)
theorem dX3_goes_292 : decode cX3_goes 292 = .ok (.bipush 9, 2) := dk_16 9 (dk_at dksX3_goes_11 11 rfl rfl)
theorem dX3_goes_294 : decode cX3_goes 294 = .ok (.invokevirtual 101, 3) := dk_182 0 101 (dk_at dksX3_goes_11 13 rfl rfl)
theorem dX3_goes_297 : decode cX3_goes 297 = .ok (.ifCond .ne 45, 3) := dk_154 0 45 (dk_at dksX3_goes_11 16 rfl rfl)
theorem dX3_goes_300 : decode cX3_goes 300 = .ok (.iload_n 2, 1) := dk_28 (dk_at dksX3_goes_11 19 rfl rfl)
theorem dX3_goes_301 : decode cX3_goes 301 = .ok (.ifCond .eq 7, 3) := dk_153 0 7 (dk_at dksX3_goes_11 20 rfl rfl)
theorem dX3_goes_304 : decode cX3_goes 304 = .ok (.iload_n 3, 1) := dk_29 (dk_at dksX3_goes_11 23 rfl rfl)
theorem dX3_goes_305 : decode cX3_goes 305 = .ok (.ifCond .ne 10, 3) := dk_154 0 10 (dk_at dksX3_goes_12 0 rfl rfl)
theorem dX3_goes_308 : decode cX3_goes 308 = .ok (.aload_n 0, 1) := dk_42 (dk_at dksX3_goes_12 3 rfl rfl)
theorem dX3_goes_309 : decode cX3_goes 309 = .ok (.invokevirtual 105, 3) := dk_182 0 105 (dk_at dksX3_goes_12 4 rfl rfl)
theorem dX3_goes_312 : decode cX3_goes 312 = .ok (.ifCond .eq 30, 3) := dk_153 0 30 (dk_at dksX3_goes_12 7 rfl rfl)
theorem dX3_goes_315 : decode cX3_goes 315 = .ok (.iload_n 2, 1) := dk_28 (dk_at dksX3_goes_12 10 rfl rfl)
theorem dX3_goes_316 : decode cX3_goes 316 = .ok (.ifCond .ne 16, 3) := dk_154 0 16 (dk_at dksX3_goes_12 11 rfl rfl)
theorem dX3_goes_319 : decode cX3_goes 319 = .ok (.aload_n 0, 1) := dk_42 (dk_at dksX3_goes_12 14 rfl rfl)
theorem dX3_goes_320 : decode cX3_goes 320 = .ok (.aload_n 0, 1) := dk_42 (dk_at dksX3_goes_12 15 rfl rfl)
theorem dX3_goes_321 : decode cX3_goes 321 = .ok (.getfield 22, 3) := dk_180 0 22 (dk_at dksX3_goes_12 16 rfl rfl)
theorem dX3_goes_324 : decode cX3_goes 324 = .ok (.aload_n 0, 1) := dk_42 (dk_at dksX3_goes_12 19 rfl rfl)
theorem dX3_goes_325 : decode cX3_goes 325 = .ok (.getfield 46, 3) := dk_180 0 46 (dk_at dksX3_goes_12 20 rfl rfl)
theorem dX3_goes_328 : decode cX3_goes 328 = .ok (.aaload, 1) := dk_50 (dk_at dksX3_goes_12 23 rfl rfl)
theorem dX3_goes_329 : decode cX3_goes 329 = .ok (.invokevirtual 126, 3) := dk_182 0 126 (dk_at dksX3_goes_13 0 rfl rfl)
theorem dX3_goes_332 : decode cX3_goes 332 = .ok (.aload_n 0, 1) := dk_42 (dk_at dksX3_goes_13 3 rfl rfl)
theorem dX3_goes_333 : decode cX3_goes 333 = .ok (.dup, 1) := dk_89 (dk_at dksX3_goes_13 4 rfl rfl)
theorem dX3_goes_334 : decode cX3_goes 334 = .ok (.getfield 46, 3) := dk_180 0 46 (dk_at dksX3_goes_13 5 rfl rfl)
theorem dX3_goes_337 : decode cX3_goes 337 = .ok (.iconst 1, 1) := dk_4 (dk_at dksX3_goes_13 8 rfl rfl)
theorem dX3_goes_338 : decode cX3_goes 338 = .ok (.isub, 1) := dk_100 (dk_at dksX3_goes_13 9 rfl rfl)
theorem dX3_goes_339 : decode cX3_goes 339 = .ok (.putfield 46, 3) := dk_181 0 46 (dk_at dksX3_goes_13 10 rfl rfl)
theorem dX3_goes_342 : decode cX3_goes 342 = .ok (.return_, 1) := dk_177 (dk_at dksX3_goes_13 13 rfl rfl)
abbrev cX3_enters : ByteArray := prog_12_method_4_code
def yX3_enters : MethodName := ⟨RX3, "enters", "(I)V"⟩
def dkwX3_enters_0 : List UInt8 := [42, 89, 180, 0, 46, 4, 96, 181, 0, 46, 42, 180, 0, 25, 42, 180, 0, 46, 27, 79, 177]
abbrev dktX3_enters_0 : List UInt8 := dkwX3_enters_0 ++ []
theorem dksX3_enters_0 : cX3_enters.data.toList.drop 0 = dktX3_enters_0 := by decide +kernel
theorem dX3_enters_0 : decode cX3_enters 0 = .ok (.aload_n 0, 1) := dk_42 (dk_at dksX3_enters_0 0 rfl rfl)
theorem dX3_enters_1 : decode cX3_enters 1 = .ok (.dup, 1) := dk_89 (dk_at dksX3_enters_0 1 rfl rfl)
theorem dX3_enters_2 : decode cX3_enters 2 = .ok (.getfield 46, 3) := dk_180 0 46 (dk_at dksX3_enters_0 2 rfl rfl)
theorem dX3_enters_5 : decode cX3_enters 5 = .ok (.iconst 1, 1) := dk_4 (dk_at dksX3_enters_0 5 rfl rfl)
theorem dX3_enters_6 : decode cX3_enters 6 = .ok (.iadd, 1) := dk_96 (dk_at dksX3_enters_0 6 rfl rfl)
theorem dX3_enters_7 : decode cX3_enters 7 = .ok (.putfield 46, 3) := dk_181 0 46 (dk_at dksX3_enters_0 7 rfl rfl)
theorem dX3_enters_10 : decode cX3_enters 10 = .ok (.aload_n 0, 1) := dk_42 (dk_at dksX3_enters_0 10 rfl rfl)
theorem dX3_enters_11 : decode cX3_enters 11 = .ok (.getfield 25, 3) := dk_180 0 25 (dk_at dksX3_enters_0 11 rfl rfl)
theorem dX3_enters_14 : decode cX3_enters 14 = .ok (.aload_n 0, 1) := dk_42 (dk_at dksX3_enters_0 14 rfl rfl)
theorem dX3_enters_15 : decode cX3_enters 15 = .ok (.getfield 46, 3) := dk_180 0 46 (dk_at dksX3_enters_0 15 rfl rfl)
theorem dX3_enters_18 : decode cX3_enters 18 = .ok (.iload_n 1, 1) := dk_27 (dk_at dksX3_enters_0 18 rfl rfl)
theorem dX3_enters_19 : decode cX3_enters 19 = .ok (.iastore, 1) := dk_79 (dk_at dksX3_enters_0 19 rfl rfl)
theorem dX3_enters_20 : decode cX3_enters 20 = .ok (.return_, 1) := dk_177 (dk_at dksX3_enters_0 20 rfl rfl)
abbrev cX3_isNot : ByteArray := prog_12_method_6_code
def yX3_isNot : MethodName := ⟨RX3, "isNot", "(I)Z"⟩
def dkwX3_isNot_1 : List UInt8 := [167, 0, 4, 3, 4, 27, 182, 0, 73, 172]
abbrev dktX3_isNot_1 : List UInt8 := dkwX3_isNot_1 ++ []
def dkwX3_isNot_0 : List UInt8 := [42, 42, 180, 0, 46, 153, 0, 16, 42, 180, 0, 25, 42, 180, 0, 46, 46, 27, 159, 0, 7, 4]
abbrev dktX3_isNot_0 : List UInt8 := dkwX3_isNot_0 ++ dktX3_isNot_1
theorem dksX3_isNot_0 : cX3_isNot.data.toList.drop 0 = dktX3_isNot_0 := by decide +kernel
theorem dksX3_isNot_1 : cX3_isNot.data.toList.drop 22 = dktX3_isNot_1 := dk_seg dksX3_isNot_0 22 rfl rfl
theorem dX3_isNot_0 : decode cX3_isNot 0 = .ok (.aload_n 0, 1) := dk_42 (dk_at dksX3_isNot_0 0 rfl rfl)
theorem dX3_isNot_1 : decode cX3_isNot 1 = .ok (.aload_n 0, 1) := dk_42 (dk_at dksX3_isNot_0 1 rfl rfl)
theorem dX3_isNot_2 : decode cX3_isNot 2 = .ok (.getfield 46, 3) := dk_180 0 46 (dk_at dksX3_isNot_0 2 rfl rfl)
theorem dX3_isNot_5 : decode cX3_isNot 5 = .ok (.ifCond .eq 16, 3) := dk_153 0 16 (dk_at dksX3_isNot_0 5 rfl rfl)
theorem dX3_isNot_8 : decode cX3_isNot 8 = .ok (.aload_n 0, 1) := dk_42 (dk_at dksX3_isNot_0 8 rfl rfl)
theorem dX3_isNot_9 : decode cX3_isNot 9 = .ok (.getfield 25, 3) := dk_180 0 25 (dk_at dksX3_isNot_0 9 rfl rfl)
theorem dX3_isNot_12 : decode cX3_isNot 12 = .ok (.aload_n 0, 1) := dk_42 (dk_at dksX3_isNot_0 12 rfl rfl)
theorem dX3_isNot_13 : decode cX3_isNot 13 = .ok (.getfield 46, 3) := dk_180 0 46 (dk_at dksX3_isNot_0 13 rfl rfl)
theorem dX3_isNot_16 : decode cX3_isNot 16 = .ok (.iaload, 1) := dk_46 (dk_at dksX3_isNot_0 16 rfl rfl)
theorem dX3_isNot_17 : decode cX3_isNot 17 = .ok (.iload_n 1, 1) := dk_27 (dk_at dksX3_isNot_0 17 rfl rfl)
theorem dX3_isNot_18 : decode cX3_isNot 18 = .ok (.if_icmp .eq 7, 3) := dk_159 0 7 (dk_at dksX3_isNot_0 18 rfl rfl)
theorem dX3_isNot_21 : decode cX3_isNot 21 = .ok (.iconst 1, 1) := dk_4 (dk_at dksX3_isNot_0 21 rfl rfl)
theorem dX3_isNot_22 : decode cX3_isNot 22 = .ok (.goto 4, 3) := dk_167 0 4 (dk_at dksX3_isNot_1 0 rfl rfl)
theorem dX3_isNot_25 : decode cX3_isNot 25 = .ok (.iconst 0, 1) := dk_3 (dk_at dksX3_isNot_1 3 rfl rfl)
theorem dX3_isNot_26 : decode cX3_isNot 26 = .ok (.iconst 1, 1) := dk_4 (dk_at dksX3_isNot_1 4 rfl rfl)
theorem dX3_isNot_27 : decode cX3_isNot 27 = .ok (.iload_n 1, 1) := dk_27 (dk_at dksX3_isNot_1 5 rfl rfl)
theorem dX3_isNot_28 : decode cX3_isNot 28 = .ok (.invokevirtual 73, 3) := dk_182 0 73 (dk_at dksX3_isNot_1 6 rfl rfl)
theorem dX3_isNot_31 : decode cX3_isNot 31 = .ok (.ireturn, 1) := dk_172 (dk_at dksX3_isNot_1 9 rfl rfl)
abbrev cX3_wrongFor : ByteArray := prog_12_method_3_code
def yX3_wrongFor : MethodName := ⟨RX3, "wrongFor", "(ZII)Z"⟩
def dkwX3_wrongFor_1 : List UInt8 := [180, 0, 49, 158, 0, 7, 4, 167, 0, 4, 3, 172]
abbrev dktX3_wrongFor_1 : List UInt8 := dkwX3_wrongFor_1 ++ []
def dkwX3_wrongFor_0 : List UInt8 := [27, 153, 0, 20, 42, 180, 0, 49, 154, 0, 13, 42, 28, 181, 0, 49, 42, 29, 181, 0, 55, 42]
abbrev dktX3_wrongFor_0 : List UInt8 := dkwX3_wrongFor_0 ++ dktX3_wrongFor_1
theorem dksX3_wrongFor_0 : cX3_wrongFor.data.toList.drop 0 = dktX3_wrongFor_0 := by decide +kernel
theorem dksX3_wrongFor_1 : cX3_wrongFor.data.toList.drop 22 = dktX3_wrongFor_1 := dk_seg dksX3_wrongFor_0 22 rfl rfl
theorem dX3_wrongFor_0 : decode cX3_wrongFor 0 = .ok (.iload_n 1, 1) := dk_27 (dk_at dksX3_wrongFor_0 0 rfl rfl)
theorem dX3_wrongFor_1 : decode cX3_wrongFor 1 = .ok (.ifCond .eq 20, 3) := dk_153 0 20 (dk_at dksX3_wrongFor_0 1 rfl rfl)
theorem dX3_wrongFor_4 : decode cX3_wrongFor 4 = .ok (.aload_n 0, 1) := dk_42 (dk_at dksX3_wrongFor_0 4 rfl rfl)
theorem dX3_wrongFor_5 : decode cX3_wrongFor 5 = .ok (.getfield 49, 3) := dk_180 0 49 (dk_at dksX3_wrongFor_0 5 rfl rfl)
theorem dX3_wrongFor_8 : decode cX3_wrongFor 8 = .ok (.ifCond .ne 13, 3) := dk_154 0 13 (dk_at dksX3_wrongFor_0 8 rfl rfl)
theorem dX3_wrongFor_11 : decode cX3_wrongFor 11 = .ok (.aload_n 0, 1) := dk_42 (dk_at dksX3_wrongFor_0 11 rfl rfl)
theorem dX3_wrongFor_12 : decode cX3_wrongFor 12 = .ok (.iload_n 2, 1) := dk_28 (dk_at dksX3_wrongFor_0 12 rfl rfl)
theorem dX3_wrongFor_13 : decode cX3_wrongFor 13 = .ok (.putfield 49, 3) := dk_181 0 49 (dk_at dksX3_wrongFor_0 13 rfl rfl)
theorem dX3_wrongFor_16 : decode cX3_wrongFor 16 = .ok (.aload_n 0, 1) := dk_42 (dk_at dksX3_wrongFor_0 16 rfl rfl)
theorem dX3_wrongFor_17 : decode cX3_wrongFor 17 = .ok (.iload_n 3, 1) := dk_29 (dk_at dksX3_wrongFor_0 17 rfl rfl)
theorem dX3_wrongFor_18 : decode cX3_wrongFor 18 = .ok (.putfield 55, 3) := dk_181 0 55 (dk_at dksX3_wrongFor_0 18 rfl rfl)
theorem dX3_wrongFor_21 : decode cX3_wrongFor 21 = .ok (.aload_n 0, 1) := dk_42 (dk_at dksX3_wrongFor_0 21 rfl rfl)
theorem dX3_wrongFor_22 : decode cX3_wrongFor 22 = .ok (.getfield 49, 3) := dk_180 0 49 (dk_at dksX3_wrongFor_1 0 rfl rfl)
theorem dX3_wrongFor_25 : decode cX3_wrongFor 25 = .ok (.ifCond .le 7, 3) := dk_158 0 7 (dk_at dksX3_wrongFor_1 3 rfl rfl)
theorem dX3_wrongFor_28 : decode cX3_wrongFor 28 = .ok (.iconst 1, 1) := dk_4 (dk_at dksX3_wrongFor_1 6 rfl rfl)
theorem dX3_wrongFor_29 : decode cX3_wrongFor 29 = .ok (.goto 4, 3) := dk_167 0 4 (dk_at dksX3_wrongFor_1 7 rfl rfl)
theorem dX3_wrongFor_32 : decode cX3_wrongFor 32 = .ok (.iconst 0, 1) := dk_3 (dk_at dksX3_wrongFor_1 10 rfl rfl)
theorem dX3_wrongFor_33 : decode cX3_wrongFor 33 = .ok (.ireturn, 1) := dk_172 (dk_at dksX3_wrongFor_1 11 rfl rfl)
abbrev cX3_leaves : ByteArray := prog_12_method_5_code
def yX3_leaves : MethodName := ⟨RX3, "leaves", "()Z"⟩
def dkwX3_leaves_8 : List UInt8 := [172]
abbrev dktX3_leaves_8 : List UInt8 := dkwX3_leaves_8 ++ []
def dkwX3_leaves_7 : List UInt8 := [180, 0, 80, 27, 2, 79, 132, 1, 1, 167, 255, 209, 42, 180, 0, 49, 154, 0, 7, 4, 167, 0, 4, 3]
abbrev dktX3_leaves_7 : List UInt8 := dkwX3_leaves_7 ++ dktX3_leaves_8
def dkwX3_leaves_6 : List UInt8 := [180, 0, 46, 160, 0, 26, 42, 180, 0, 12, 180, 0, 80, 27, 46, 2, 159, 0, 13, 42, 180, 0, 12]
abbrev dktX3_leaves_6 : List UInt8 := dkwX3_leaves_6 ++ dktX3_leaves_7
def dkwX3_leaves_5 : List UInt8 := [132, 1, 1, 167, 255, 141, 3, 60, 27, 8, 162, 0, 48, 42, 180, 0, 12, 180, 0, 77, 27, 46, 42]
abbrev dktX3_leaves_5 : List UInt8 := dkwX3_leaves_5 ++ dktX3_leaves_6
def dkwX3_leaves_4 : List UInt8 := [180, 0, 63, 27, 28, 153, 0, 7, 3, 167, 0, 12, 42, 180, 0, 12, 180, 0, 63, 27, 46, 79]
abbrev dktX3_leaves_4 : List UInt8 := dkwX3_leaves_4 ++ dktX3_leaves_5
def dkwX3_leaves_3 : List UInt8 := [27, 46, 4, 160, 0, 7, 4, 167, 0, 4, 3, 16, 7, 27, 182, 0, 73, 87, 42, 180, 0, 12]
abbrev dktX3_leaves_3 : List UInt8 := dkwX3_leaves_3 ++ dktX3_leaves_4
def dkwX3_leaves_2 : List UInt8 := [61, 42, 28, 153, 0, 31, 42, 180, 0, 35, 27, 182, 0, 69, 154, 0, 20, 42, 180, 0, 12, 180, 0, 63]
abbrev dktX3_leaves_2 : List UInt8 := dkwX3_leaves_2 ++ dktX3_leaves_3
def dkwX3_leaves_1 : List UInt8 := [153, 0, 23, 42, 180, 0, 12, 180, 0, 66, 27, 46, 42, 180, 0, 46, 160, 0, 7, 4, 167, 0, 4, 3]
abbrev dktX3_leaves_1 : List UInt8 := dkwX3_leaves_1 ++ dktX3_leaves_2
def dkwX3_leaves_0 : List UInt8 := [3, 60, 27, 42, 180, 0, 35, 180, 0, 58, 162, 0, 110, 42, 180, 0, 12, 180, 0, 63, 27, 46]
abbrev dktX3_leaves_0 : List UInt8 := dkwX3_leaves_0 ++ dktX3_leaves_1
theorem dksX3_leaves_0 : cX3_leaves.data.toList.drop 0 = dktX3_leaves_0 := by decide +kernel
theorem dksX3_leaves_1 : cX3_leaves.data.toList.drop 22 = dktX3_leaves_1 := dk_seg dksX3_leaves_0 22 rfl rfl
theorem dksX3_leaves_2 : cX3_leaves.data.toList.drop 46 = dktX3_leaves_2 := dk_seg dksX3_leaves_1 24 rfl rfl
theorem dksX3_leaves_3 : cX3_leaves.data.toList.drop 70 = dktX3_leaves_3 := dk_seg dksX3_leaves_2 24 rfl rfl
theorem dksX3_leaves_4 : cX3_leaves.data.toList.drop 92 = dktX3_leaves_4 := dk_seg dksX3_leaves_3 22 rfl rfl
theorem dksX3_leaves_5 : cX3_leaves.data.toList.drop 114 = dktX3_leaves_5 := dk_seg dksX3_leaves_4 22 rfl rfl
theorem dksX3_leaves_6 : cX3_leaves.data.toList.drop 137 = dktX3_leaves_6 := dk_seg dksX3_leaves_5 23 rfl rfl
theorem dksX3_leaves_7 : cX3_leaves.data.toList.drop 160 = dktX3_leaves_7 := dk_seg dksX3_leaves_6 23 rfl rfl
theorem dksX3_leaves_8 : cX3_leaves.data.toList.drop 184 = dktX3_leaves_8 := dk_seg dksX3_leaves_7 24 rfl rfl
theorem dX3_leaves_0 : decode cX3_leaves 0 = .ok (.iconst 0, 1) := dk_3 (dk_at dksX3_leaves_0 0 rfl rfl)
theorem dX3_leaves_1 : decode cX3_leaves 1 = .ok (.istore_n 1, 1) := dk_60 (dk_at dksX3_leaves_0 1 rfl rfl)
theorem dX3_leaves_2 : decode cX3_leaves 2 = .ok (.iload_n 1, 1) := dk_27 (dk_at dksX3_leaves_0 2 rfl rfl)
theorem dX3_leaves_3 : decode cX3_leaves 3 = .ok (.aload_n 0, 1) := dk_42 (dk_at dksX3_leaves_0 3 rfl rfl)
theorem dX3_leaves_4 : decode cX3_leaves 4 = .ok (.getfield 35, 3) := dk_180 0 35 (dk_at dksX3_leaves_0 4 rfl rfl)
theorem dX3_leaves_7 : decode cX3_leaves 7 = .ok (.getfield 58, 3) := dk_180 0 58 (dk_at dksX3_leaves_0 7 rfl rfl)
theorem dX3_leaves_10 : decode cX3_leaves 10 = .ok (.if_icmp .ge 110, 3) := dk_162 0 110 (dk_at dksX3_leaves_0 10 rfl rfl)
theorem dX3_leaves_13 : decode cX3_leaves 13 = .ok (.aload_n 0, 1) := dk_42 (dk_at dksX3_leaves_0 13 rfl rfl)
theorem dX3_leaves_14 : decode cX3_leaves 14 = .ok (.getfield 12, 3) := dk_180 0 12 (dk_at dksX3_leaves_0 14 rfl rfl)
theorem dX3_leaves_17 : decode cX3_leaves 17 = .ok (.getfield 63, 3) := dk_180 0 63 (dk_at dksX3_leaves_0 17 rfl rfl)
theorem dX3_leaves_20 : decode cX3_leaves 20 = .ok (.iload_n 1, 1) := dk_27 (dk_at dksX3_leaves_0 20 rfl rfl)
theorem dX3_leaves_21 : decode cX3_leaves 21 = .ok (.iaload, 1) := dk_46 (dk_at dksX3_leaves_0 21 rfl rfl)
theorem dX3_leaves_22 : decode cX3_leaves 22 = .ok (.ifCond .eq 23, 3) := dk_153 0 23 (dk_at dksX3_leaves_1 0 rfl rfl)
theorem dX3_leaves_25 : decode cX3_leaves 25 = .ok (.aload_n 0, 1) := dk_42 (dk_at dksX3_leaves_1 3 rfl rfl)
theorem dX3_leaves_26 : decode cX3_leaves 26 = .ok (.getfield 12, 3) := dk_180 0 12 (dk_at dksX3_leaves_1 4 rfl rfl)
theorem dX3_leaves_29 : decode cX3_leaves 29 = .ok (.getfield 66, 3) := dk_180 0 66 (dk_at dksX3_leaves_1 7 rfl rfl)
theorem dX3_leaves_32 : decode cX3_leaves 32 = .ok (.iload_n 1, 1) := dk_27 (dk_at dksX3_leaves_1 10 rfl rfl)
theorem dX3_leaves_33 : decode cX3_leaves 33 = .ok (.iaload, 1) := dk_46 (dk_at dksX3_leaves_1 11 rfl rfl)
theorem dX3_leaves_34 : decode cX3_leaves 34 = .ok (.aload_n 0, 1) := dk_42 (dk_at dksX3_leaves_1 12 rfl rfl)
theorem dX3_leaves_35 : decode cX3_leaves 35 = .ok (.getfield 46, 3) := dk_180 0 46 (dk_at dksX3_leaves_1 13 rfl rfl)
theorem dX3_leaves_38 : decode cX3_leaves 38 = .ok (.if_icmp .ne 7, 3) := dk_160 0 7 (dk_at dksX3_leaves_1 16 rfl rfl)
theorem dX3_leaves_41 : decode cX3_leaves 41 = .ok (.iconst 1, 1) := dk_4 (dk_at dksX3_leaves_1 19 rfl rfl)
theorem dX3_leaves_42 : decode cX3_leaves 42 = .ok (.goto 4, 3) := dk_167 0 4 (dk_at dksX3_leaves_1 20 rfl rfl)
theorem dX3_leaves_45 : decode cX3_leaves 45 = .ok (.iconst 0, 1) := dk_3 (dk_at dksX3_leaves_1 23 rfl rfl)
theorem dX3_leaves_46 : decode cX3_leaves 46 = .ok (.istore_n 2, 1) := dk_61 (dk_at dksX3_leaves_2 0 rfl rfl)
theorem dX3_leaves_47 : decode cX3_leaves 47 = .ok (.aload_n 0, 1) := dk_42 (dk_at dksX3_leaves_2 1 rfl rfl)
theorem dX3_leaves_48 : decode cX3_leaves 48 = .ok (.iload_n 2, 1) := dk_28 (dk_at dksX3_leaves_2 2 rfl rfl)
theorem dX3_leaves_49 : decode cX3_leaves 49 = .ok (.ifCond .eq 31, 3) := dk_153 0 31 (dk_at dksX3_leaves_2 3 rfl rfl)
theorem dX3_leaves_52 : decode cX3_leaves 52 = .ok (.aload_n 0, 1) := dk_42 (dk_at dksX3_leaves_2 6 rfl rfl)
theorem dX3_leaves_53 : decode cX3_leaves 53 = .ok (.getfield 35, 3) := dk_180 0 35 (dk_at dksX3_leaves_2 7 rfl rfl)
theorem dX3_leaves_56 : decode cX3_leaves 56 = .ok (.iload_n 1, 1) := dk_27 (dk_at dksX3_leaves_2 10 rfl rfl)
theorem dX3_leaves_57 : decode cX3_leaves 57 = .ok (.invokevirtual 69, 3) := dk_182 0 69 (dk_at dksX3_leaves_2 11 rfl rfl)
theorem dX3_leaves_60 : decode cX3_leaves 60 = .ok (.ifCond .ne 20, 3) := dk_154 0 20 (dk_at dksX3_leaves_2 14 rfl rfl)
theorem dX3_leaves_63 : decode cX3_leaves 63 = .ok (.aload_n 0, 1) := dk_42 (dk_at dksX3_leaves_2 17 rfl rfl)
theorem dX3_leaves_64 : decode cX3_leaves 64 = .ok (.getfield 12, 3) := dk_180 0 12 (dk_at dksX3_leaves_2 18 rfl rfl)
theorem dX3_leaves_67 : decode cX3_leaves 67 = .ok (.getfield 63, 3) := dk_180 0 63 (dk_at dksX3_leaves_2 21 rfl rfl)
theorem dX3_leaves_70 : decode cX3_leaves 70 = .ok (.iload_n 1, 1) := dk_27 (dk_at dksX3_leaves_3 0 rfl rfl)
theorem dX3_leaves_71 : decode cX3_leaves 71 = .ok (.iaload, 1) := dk_46 (dk_at dksX3_leaves_3 1 rfl rfl)
theorem dX3_leaves_72 : decode cX3_leaves 72 = .ok (.iconst 1, 1) := dk_4 (dk_at dksX3_leaves_3 2 rfl rfl)
theorem dX3_leaves_73 : decode cX3_leaves 73 = .ok (.if_icmp .ne 7, 3) := dk_160 0 7 (dk_at dksX3_leaves_3 3 rfl rfl)
theorem dX3_leaves_76 : decode cX3_leaves 76 = .ok (.iconst 1, 1) := dk_4 (dk_at dksX3_leaves_3 6 rfl rfl)
theorem dX3_leaves_77 : decode cX3_leaves 77 = .ok (.goto 4, 3) := dk_167 0 4 (dk_at dksX3_leaves_3 7 rfl rfl)
theorem dX3_leaves_80 : decode cX3_leaves 80 = .ok (.iconst 0, 1) := dk_3 (dk_at dksX3_leaves_3 10 rfl rfl)
theorem dX3_leaves_81 : decode cX3_leaves 81 = .ok (.bipush 7, 2) := dk_16 7 (dk_at dksX3_leaves_3 11 rfl rfl)
theorem dX3_leaves_83 : decode cX3_leaves 83 = .ok (.iload_n 1, 1) := dk_27 (dk_at dksX3_leaves_3 13 rfl rfl)
theorem dX3_leaves_84 : decode cX3_leaves 84 = .ok (.invokevirtual 73, 3) := dk_182 0 73 (dk_at dksX3_leaves_3 14 rfl rfl)
theorem dX3_leaves_87 : decode cX3_leaves 87 = .ok (.pop, 1) := dk_87 (dk_at dksX3_leaves_3 17 rfl rfl)
theorem dX3_leaves_88 : decode cX3_leaves 88 = .ok (.aload_n 0, 1) := dk_42 (dk_at dksX3_leaves_3 18 rfl rfl)
theorem dX3_leaves_89 : decode cX3_leaves 89 = .ok (.getfield 12, 3) := dk_180 0 12 (dk_at dksX3_leaves_3 19 rfl rfl)
theorem dX3_leaves_92 : decode cX3_leaves 92 = .ok (.getfield 63, 3) := dk_180 0 63 (dk_at dksX3_leaves_4 0 rfl rfl)
theorem dX3_leaves_95 : decode cX3_leaves 95 = .ok (.iload_n 1, 1) := dk_27 (dk_at dksX3_leaves_4 3 rfl rfl)
theorem dX3_leaves_96 : decode cX3_leaves 96 = .ok (.iload_n 2, 1) := dk_28 (dk_at dksX3_leaves_4 4 rfl rfl)
theorem dX3_leaves_97 : decode cX3_leaves 97 = .ok (.ifCond .eq 7, 3) := dk_153 0 7 (dk_at dksX3_leaves_4 5 rfl rfl)
theorem dX3_leaves_100 : decode cX3_leaves 100 = .ok (.iconst 0, 1) := dk_3 (dk_at dksX3_leaves_4 8 rfl rfl)
theorem dX3_leaves_101 : decode cX3_leaves 101 = .ok (.goto 12, 3) := dk_167 0 12 (dk_at dksX3_leaves_4 9 rfl rfl)
theorem dX3_leaves_104 : decode cX3_leaves 104 = .ok (.aload_n 0, 1) := dk_42 (dk_at dksX3_leaves_4 12 rfl rfl)
theorem dX3_leaves_105 : decode cX3_leaves 105 = .ok (.getfield 12, 3) := dk_180 0 12 (dk_at dksX3_leaves_4 13 rfl rfl)
theorem dX3_leaves_108 : decode cX3_leaves 108 = .ok (.getfield 63, 3) := dk_180 0 63 (dk_at dksX3_leaves_4 16 rfl rfl)
theorem dX3_leaves_111 : decode cX3_leaves 111 = .ok (.iload_n 1, 1) := dk_27 (dk_at dksX3_leaves_4 19 rfl rfl)
theorem dX3_leaves_112 : decode cX3_leaves 112 = .ok (.iaload, 1) := dk_46 (dk_at dksX3_leaves_4 20 rfl rfl)
theorem dX3_leaves_113 : decode cX3_leaves 113 = .ok (.iastore, 1) := dk_79 (dk_at dksX3_leaves_4 21 rfl rfl)
theorem dX3_leaves_114 : decode cX3_leaves 114 = .ok (.iinc 1 1, 3) := dk_132 1 1 (dk_at dksX3_leaves_5 0 rfl rfl)
theorem dX3_leaves_117 : decode cX3_leaves 117 = .ok (.goto (-115), 3) := dk_167 255 141 (dk_at dksX3_leaves_5 3 rfl rfl)
theorem dX3_leaves_120 : decode cX3_leaves 120 = .ok (.iconst 0, 1) := dk_3 (dk_at dksX3_leaves_5 6 rfl rfl)
theorem dX3_leaves_121 : decode cX3_leaves 121 = .ok (.istore_n 1, 1) := dk_60 (dk_at dksX3_leaves_5 7 rfl rfl)
theorem dX3_leaves_122 : decode cX3_leaves 122 = .ok (.iload_n 1, 1) := dk_27 (dk_at dksX3_leaves_5 8 rfl rfl)
theorem dX3_leaves_123 : decode cX3_leaves 123 = .ok (.iconst 5, 1) := dk_8 (dk_at dksX3_leaves_5 9 rfl rfl)
theorem dX3_leaves_124 : decode cX3_leaves 124 = .ok (.if_icmp .ge 48, 3) := dk_162 0 48 (dk_at dksX3_leaves_5 10 rfl rfl)
theorem dX3_leaves_127 : decode cX3_leaves 127 = .ok (.aload_n 0, 1) := dk_42 (dk_at dksX3_leaves_5 13 rfl rfl)
theorem dX3_leaves_128 : decode cX3_leaves 128 = .ok (.getfield 12, 3) := dk_180 0 12 (dk_at dksX3_leaves_5 14 rfl rfl)
theorem dX3_leaves_131 : decode cX3_leaves 131 = .ok (.getfield 77, 3) := dk_180 0 77 (dk_at dksX3_leaves_5 17 rfl rfl)
theorem dX3_leaves_134 : decode cX3_leaves 134 = .ok (.iload_n 1, 1) := dk_27 (dk_at dksX3_leaves_5 20 rfl rfl)
theorem dX3_leaves_135 : decode cX3_leaves 135 = .ok (.iaload, 1) := dk_46 (dk_at dksX3_leaves_5 21 rfl rfl)
theorem dX3_leaves_136 : decode cX3_leaves 136 = .ok (.aload_n 0, 1) := dk_42 (dk_at dksX3_leaves_5 22 rfl rfl)
theorem dX3_leaves_137 : decode cX3_leaves 137 = .ok (.getfield 46, 3) := dk_180 0 46 (dk_at dksX3_leaves_6 0 rfl rfl)
theorem dX3_leaves_140 : decode cX3_leaves 140 = .ok (.if_icmp .ne 26, 3) := dk_160 0 26 (dk_at dksX3_leaves_6 3 rfl rfl)
theorem dX3_leaves_143 : decode cX3_leaves 143 = .ok (.aload_n 0, 1) := dk_42 (dk_at dksX3_leaves_6 6 rfl rfl)
theorem dX3_leaves_144 : decode cX3_leaves 144 = .ok (.getfield 12, 3) := dk_180 0 12 (dk_at dksX3_leaves_6 7 rfl rfl)
theorem dX3_leaves_147 : decode cX3_leaves 147 = .ok (.getfield 80, 3) := dk_180 0 80 (dk_at dksX3_leaves_6 10 rfl rfl)
theorem dX3_leaves_150 : decode cX3_leaves 150 = .ok (.iload_n 1, 1) := dk_27 (dk_at dksX3_leaves_6 13 rfl rfl)
theorem dX3_leaves_151 : decode cX3_leaves 151 = .ok (.iaload, 1) := dk_46 (dk_at dksX3_leaves_6 14 rfl rfl)
theorem dX3_leaves_152 : decode cX3_leaves 152 = .ok (.iconst (-1), 1) := dk_2 (dk_at dksX3_leaves_6 15 rfl rfl)
theorem dX3_leaves_153 : decode cX3_leaves 153 = .ok (.if_icmp .eq 13, 3) := dk_159 0 13 (dk_at dksX3_leaves_6 16 rfl rfl)
theorem dX3_leaves_156 : decode cX3_leaves 156 = .ok (.aload_n 0, 1) := dk_42 (dk_at dksX3_leaves_6 19 rfl rfl)
theorem dX3_leaves_157 : decode cX3_leaves 157 = .ok (.getfield 12, 3) := dk_180 0 12 (dk_at dksX3_leaves_6 20 rfl rfl)
theorem dX3_leaves_160 : decode cX3_leaves 160 = .ok (.getfield 80, 3) := dk_180 0 80 (dk_at dksX3_leaves_7 0 rfl rfl)
theorem dX3_leaves_163 : decode cX3_leaves 163 = .ok (.iload_n 1, 1) := dk_27 (dk_at dksX3_leaves_7 3 rfl rfl)
theorem dX3_leaves_164 : decode cX3_leaves 164 = .ok (.iconst (-1), 1) := dk_2 (dk_at dksX3_leaves_7 4 rfl rfl)
theorem dX3_leaves_165 : decode cX3_leaves 165 = .ok (.iastore, 1) := dk_79 (dk_at dksX3_leaves_7 5 rfl rfl)
theorem dX3_leaves_166 : decode cX3_leaves 166 = .ok (.iinc 1 1, 3) := dk_132 1 1 (dk_at dksX3_leaves_7 6 rfl rfl)
theorem dX3_leaves_169 : decode cX3_leaves 169 = .ok (.goto (-47), 3) := dk_167 255 209 (dk_at dksX3_leaves_7 9 rfl rfl)
theorem dX3_leaves_172 : decode cX3_leaves 172 = .ok (.aload_n 0, 1) := dk_42 (dk_at dksX3_leaves_7 12 rfl rfl)
theorem dX3_leaves_173 : decode cX3_leaves 173 = .ok (.getfield 49, 3) := dk_180 0 49 (dk_at dksX3_leaves_7 13 rfl rfl)
theorem dX3_leaves_176 : decode cX3_leaves 176 = .ok (.ifCond .ne 7, 3) := dk_154 0 7 (dk_at dksX3_leaves_7 16 rfl rfl)
theorem dX3_leaves_179 : decode cX3_leaves 179 = .ok (.iconst 1, 1) := dk_4 (dk_at dksX3_leaves_7 19 rfl rfl)
theorem dX3_leaves_180 : decode cX3_leaves 180 = .ok (.goto 4, 3) := dk_167 0 4 (dk_at dksX3_leaves_7 20 rfl rfl)
theorem dX3_leaves_183 : decode cX3_leaves 183 = .ok (.iconst 0, 1) := dk_3 (dk_at dksX3_leaves_7 23 rfl rfl)
theorem dX3_leaves_184 : decode cX3_leaves 184 = .ok (.ireturn, 1) := dk_172 (dk_at dksX3_leaves_8 0 rfl rfl)
abbrev cX3_brings : ByteArray := prog_12_method_7_code
def yX3_brings : MethodName := ⟨RX3, "brings", "(I)V"⟩
def dkwX3_brings_2 : List UInt8 := [180, 0, 46, 79, 177]
abbrev dktX3_brings_2 : List UInt8 := dkwX3_brings_2 ++ []
def dkwX3_brings_1 : List UInt8 := [154, 0, 26, 42, 180, 0, 12, 180, 0, 63, 27, 4, 79, 42, 180, 0, 12, 180, 0, 66, 27, 42]
abbrev dktX3_brings_1 : List UInt8 := dkwX3_brings_1 ++ dktX3_brings_2
def dkwX3_brings_0 : List UInt8 := [42, 42, 180, 0, 12, 180, 0, 63, 27, 46, 153, 0, 7, 4, 167, 0, 4, 3, 5, 27, 182, 0, 73]
abbrev dktX3_brings_0 : List UInt8 := dkwX3_brings_0 ++ dktX3_brings_1
theorem dksX3_brings_0 : cX3_brings.data.toList.drop 0 = dktX3_brings_0 := by decide +kernel
theorem dksX3_brings_1 : cX3_brings.data.toList.drop 23 = dktX3_brings_1 := dk_seg dksX3_brings_0 23 rfl rfl
theorem dksX3_brings_2 : cX3_brings.data.toList.drop 45 = dktX3_brings_2 := dk_seg dksX3_brings_1 22 rfl rfl
theorem dX3_brings_0 : decode cX3_brings 0 = .ok (.aload_n 0, 1) := dk_42 (dk_at dksX3_brings_0 0 rfl rfl)
theorem dX3_brings_1 : decode cX3_brings 1 = .ok (.aload_n 0, 1) := dk_42 (dk_at dksX3_brings_0 1 rfl rfl)
theorem dX3_brings_2 : decode cX3_brings 2 = .ok (.getfield 12, 3) := dk_180 0 12 (dk_at dksX3_brings_0 2 rfl rfl)
theorem dX3_brings_5 : decode cX3_brings 5 = .ok (.getfield 63, 3) := dk_180 0 63 (dk_at dksX3_brings_0 5 rfl rfl)
theorem dX3_brings_8 : decode cX3_brings 8 = .ok (.iload_n 1, 1) := dk_27 (dk_at dksX3_brings_0 8 rfl rfl)
theorem dX3_brings_9 : decode cX3_brings 9 = .ok (.iaload, 1) := dk_46 (dk_at dksX3_brings_0 9 rfl rfl)
theorem dX3_brings_10 : decode cX3_brings 10 = .ok (.ifCond .eq 7, 3) := dk_153 0 7 (dk_at dksX3_brings_0 10 rfl rfl)
theorem dX3_brings_13 : decode cX3_brings 13 = .ok (.iconst 1, 1) := dk_4 (dk_at dksX3_brings_0 13 rfl rfl)
theorem dX3_brings_14 : decode cX3_brings 14 = .ok (.goto 4, 3) := dk_167 0 4 (dk_at dksX3_brings_0 14 rfl rfl)
theorem dX3_brings_17 : decode cX3_brings 17 = .ok (.iconst 0, 1) := dk_3 (dk_at dksX3_brings_0 17 rfl rfl)
theorem dX3_brings_18 : decode cX3_brings 18 = .ok (.iconst 2, 1) := dk_5 (dk_at dksX3_brings_0 18 rfl rfl)
theorem dX3_brings_19 : decode cX3_brings 19 = .ok (.iload_n 1, 1) := dk_27 (dk_at dksX3_brings_0 19 rfl rfl)
theorem dX3_brings_20 : decode cX3_brings 20 = .ok (.invokevirtual 73, 3) := dk_182 0 73 (dk_at dksX3_brings_0 20 rfl rfl)
theorem dX3_brings_23 : decode cX3_brings 23 = .ok (.ifCond .ne 26, 3) := dk_154 0 26 (dk_at dksX3_brings_1 0 rfl rfl)
theorem dX3_brings_26 : decode cX3_brings 26 = .ok (.aload_n 0, 1) := dk_42 (dk_at dksX3_brings_1 3 rfl rfl)
theorem dX3_brings_27 : decode cX3_brings 27 = .ok (.getfield 12, 3) := dk_180 0 12 (dk_at dksX3_brings_1 4 rfl rfl)
theorem dX3_brings_30 : decode cX3_brings 30 = .ok (.getfield 63, 3) := dk_180 0 63 (dk_at dksX3_brings_1 7 rfl rfl)
theorem dX3_brings_33 : decode cX3_brings 33 = .ok (.iload_n 1, 1) := dk_27 (dk_at dksX3_brings_1 10 rfl rfl)
theorem dX3_brings_34 : decode cX3_brings 34 = .ok (.iconst 1, 1) := dk_4 (dk_at dksX3_brings_1 11 rfl rfl)
theorem dX3_brings_35 : decode cX3_brings 35 = .ok (.iastore, 1) := dk_79 (dk_at dksX3_brings_1 12 rfl rfl)
theorem dX3_brings_36 : decode cX3_brings 36 = .ok (.aload_n 0, 1) := dk_42 (dk_at dksX3_brings_1 13 rfl rfl)
theorem dX3_brings_37 : decode cX3_brings 37 = .ok (.getfield 12, 3) := dk_180 0 12 (dk_at dksX3_brings_1 14 rfl rfl)
theorem dX3_brings_40 : decode cX3_brings 40 = .ok (.getfield 66, 3) := dk_180 0 66 (dk_at dksX3_brings_1 17 rfl rfl)
theorem dX3_brings_43 : decode cX3_brings 43 = .ok (.iload_n 1, 1) := dk_27 (dk_at dksX3_brings_1 20 rfl rfl)
theorem dX3_brings_44 : decode cX3_brings 44 = .ok (.aload_n 0, 1) := dk_42 (dk_at dksX3_brings_1 21 rfl rfl)
theorem dX3_brings_45 : decode cX3_brings 45 = .ok (.getfield 46, 3) := dk_180 0 46 (dk_at dksX3_brings_2 0 rfl rfl)
theorem dX3_brings_48 : decode cX3_brings 48 = .ok (.iastore, 1) := dk_79 (dk_at dksX3_brings_2 3 rfl rfl)
theorem dX3_brings_49 : decode cX3_brings 49 = .ok (.return_, 1) := dk_177 (dk_at dksX3_brings_2 4 rfl rfl)
abbrev cX3_gives : ByteArray := prog_12_method_8_code
def yX3_gives : MethodName := ⟨RX3, "gives", "(I)V"⟩
def dkwX3_gives_2 : List UInt8 := [42, 180, 0, 35, 27, 182, 0, 69, 5, 159, 0, 13, 42, 180, 0, 12, 180, 0, 63, 27, 3, 79, 177]
abbrev dktX3_gives_2 : List UInt8 := dkwX3_gives_2 ++ []
def dkwX3_gives_1 : List UInt8 := [87, 42, 42, 180, 0, 12, 27, 3, 182, 0, 83, 7, 27, 182, 0, 73, 87, 42, 180, 0, 49, 154, 0, 25]
abbrev dktX3_gives_1 : List UInt8 := dkwX3_gives_1 ++ dktX3_gives_2
def dkwX3_gives_0 : List UInt8 := [42, 42, 180, 0, 12, 180, 0, 63, 27, 46, 4, 159, 0, 7, 4, 167, 0, 4, 3, 6, 27, 182, 0, 73]
abbrev dktX3_gives_0 : List UInt8 := dkwX3_gives_0 ++ dktX3_gives_1
theorem dksX3_gives_0 : cX3_gives.data.toList.drop 0 = dktX3_gives_0 := by decide +kernel
theorem dksX3_gives_1 : cX3_gives.data.toList.drop 24 = dktX3_gives_1 := dk_seg dksX3_gives_0 24 rfl rfl
theorem dksX3_gives_2 : cX3_gives.data.toList.drop 48 = dktX3_gives_2 := dk_seg dksX3_gives_1 24 rfl rfl
theorem dX3_gives_0 : decode cX3_gives 0 = .ok (.aload_n 0, 1) := dk_42 (dk_at dksX3_gives_0 0 rfl rfl)
theorem dX3_gives_1 : decode cX3_gives 1 = .ok (.aload_n 0, 1) := dk_42 (dk_at dksX3_gives_0 1 rfl rfl)
theorem dX3_gives_2 : decode cX3_gives 2 = .ok (.getfield 12, 3) := dk_180 0 12 (dk_at dksX3_gives_0 2 rfl rfl)
theorem dX3_gives_5 : decode cX3_gives 5 = .ok (.getfield 63, 3) := dk_180 0 63 (dk_at dksX3_gives_0 5 rfl rfl)
theorem dX3_gives_8 : decode cX3_gives 8 = .ok (.iload_n 1, 1) := dk_27 (dk_at dksX3_gives_0 8 rfl rfl)
theorem dX3_gives_9 : decode cX3_gives 9 = .ok (.iaload, 1) := dk_46 (dk_at dksX3_gives_0 9 rfl rfl)
theorem dX3_gives_10 : decode cX3_gives 10 = .ok (.iconst 1, 1) := dk_4 (dk_at dksX3_gives_0 10 rfl rfl)
theorem dX3_gives_11 : decode cX3_gives 11 = .ok (.if_icmp .eq 7, 3) := dk_159 0 7 (dk_at dksX3_gives_0 11 rfl rfl)
theorem dX3_gives_14 : decode cX3_gives 14 = .ok (.iconst 1, 1) := dk_4 (dk_at dksX3_gives_0 14 rfl rfl)
theorem dX3_gives_15 : decode cX3_gives 15 = .ok (.goto 4, 3) := dk_167 0 4 (dk_at dksX3_gives_0 15 rfl rfl)
theorem dX3_gives_18 : decode cX3_gives 18 = .ok (.iconst 0, 1) := dk_3 (dk_at dksX3_gives_0 18 rfl rfl)
theorem dX3_gives_19 : decode cX3_gives 19 = .ok (.iconst 3, 1) := dk_6 (dk_at dksX3_gives_0 19 rfl rfl)
theorem dX3_gives_20 : decode cX3_gives 20 = .ok (.iload_n 1, 1) := dk_27 (dk_at dksX3_gives_0 20 rfl rfl)
theorem dX3_gives_21 : decode cX3_gives 21 = .ok (.invokevirtual 73, 3) := dk_182 0 73 (dk_at dksX3_gives_0 21 rfl rfl)
theorem dX3_gives_24 : decode cX3_gives 24 = .ok (.pop, 1) := dk_87 (dk_at dksX3_gives_1 0 rfl rfl)
theorem dX3_gives_25 : decode cX3_gives 25 = .ok (.aload_n 0, 1) := dk_42 (dk_at dksX3_gives_1 1 rfl rfl)
theorem dX3_gives_26 : decode cX3_gives 26 = .ok (.aload_n 0, 1) := dk_42 (dk_at dksX3_gives_1 2 rfl rfl)
theorem dX3_gives_27 : decode cX3_gives 27 = .ok (.getfield 12, 3) := dk_180 0 12 (dk_at dksX3_gives_1 3 rfl rfl)
theorem dX3_gives_30 : decode cX3_gives 30 = .ok (.iload_n 1, 1) := dk_27 (dk_at dksX3_gives_1 6 rfl rfl)
theorem dX3_gives_31 : decode cX3_gives 31 = .ok (.iconst 0, 1) := dk_3 (dk_at dksX3_gives_1 7 rfl rfl)
theorem dX3_gives_32 : decode cX3_gives 32 = .ok (.invokevirtual 83, 3) := dk_182 0 83 (dk_at dksX3_gives_1 8 rfl rfl)
theorem dX3_gives_35 : decode cX3_gives 35 = .ok (.iconst 4, 1) := dk_7 (dk_at dksX3_gives_1 11 rfl rfl)
theorem dX3_gives_36 : decode cX3_gives 36 = .ok (.iload_n 1, 1) := dk_27 (dk_at dksX3_gives_1 12 rfl rfl)
theorem dX3_gives_37 : decode cX3_gives 37 = .ok (.invokevirtual 73, 3) := dk_182 0 73 (dk_at dksX3_gives_1 13 rfl rfl)
theorem dX3_gives_40 : decode cX3_gives 40 = .ok (.pop, 1) := dk_87 (dk_at dksX3_gives_1 16 rfl rfl)
theorem dX3_gives_41 : decode cX3_gives 41 = .ok (.aload_n 0, 1) := dk_42 (dk_at dksX3_gives_1 17 rfl rfl)
theorem dX3_gives_42 : decode cX3_gives 42 = .ok (.getfield 49, 3) := dk_180 0 49 (dk_at dksX3_gives_1 18 rfl rfl)
theorem dX3_gives_45 : decode cX3_gives 45 = .ok (.ifCond .ne 25, 3) := dk_154 0 25 (dk_at dksX3_gives_1 21 rfl rfl)
theorem dX3_gives_48 : decode cX3_gives 48 = .ok (.aload_n 0, 1) := dk_42 (dk_at dksX3_gives_2 0 rfl rfl)
theorem dX3_gives_49 : decode cX3_gives 49 = .ok (.getfield 35, 3) := dk_180 0 35 (dk_at dksX3_gives_2 1 rfl rfl)
theorem dX3_gives_52 : decode cX3_gives 52 = .ok (.iload_n 1, 1) := dk_27 (dk_at dksX3_gives_2 4 rfl rfl)
theorem dX3_gives_53 : decode cX3_gives 53 = .ok (.invokevirtual 69, 3) := dk_182 0 69 (dk_at dksX3_gives_2 5 rfl rfl)
theorem dX3_gives_56 : decode cX3_gives 56 = .ok (.iconst 2, 1) := dk_5 (dk_at dksX3_gives_2 8 rfl rfl)
theorem dX3_gives_57 : decode cX3_gives 57 = .ok (.if_icmp .eq 13, 3) := dk_159 0 13 (dk_at dksX3_gives_2 9 rfl rfl)
theorem dX3_gives_60 : decode cX3_gives 60 = .ok (.aload_n 0, 1) := dk_42 (dk_at dksX3_gives_2 12 rfl rfl)
theorem dX3_gives_61 : decode cX3_gives 61 = .ok (.getfield 12, 3) := dk_180 0 12 (dk_at dksX3_gives_2 13 rfl rfl)
theorem dX3_gives_64 : decode cX3_gives 64 = .ok (.getfield 63, 3) := dk_180 0 63 (dk_at dksX3_gives_2 16 rfl rfl)
theorem dX3_gives_67 : decode cX3_gives 67 = .ok (.iload_n 1, 1) := dk_27 (dk_at dksX3_gives_2 19 rfl rfl)
theorem dX3_gives_68 : decode cX3_gives 68 = .ok (.iconst 0, 1) := dk_3 (dk_at dksX3_gives_2 20 rfl rfl)
theorem dX3_gives_69 : decode cX3_gives 69 = .ok (.iastore, 1) := dk_79 (dk_at dksX3_gives_2 21 rfl rfl)
theorem dX3_gives_70 : decode cX3_gives 70 = .ok (.return_, 1) := dk_177 (dk_at dksX3_gives_2 22 rfl rfl)
abbrev cX3_puts : ByteArray := prog_12_method_9_code
def yX3_puts : MethodName := ⟨RX3, "puts", "(IIZ)V"⟩
def dkwX3_puts_4 : List UInt8 := [180, 0, 12, 180, 0, 77, 27, 42, 180, 0, 46, 79, 42, 180, 0, 12, 180, 0, 87, 27, 29, 84, 177]
abbrev dktX3_puts_4 : List UInt8 := dkwX3_puts_4 ++ []
def dkwX3_puts_3 : List UInt8 := [182, 0, 73, 87, 42, 180, 0, 49, 154, 0, 36, 42, 180, 0, 12, 180, 0, 80, 27, 28, 79, 42]
abbrev dktX3_puts_3 : List UInt8 := dkwX3_puts_3 ++ dktX3_puts_4
def dkwX3_puts_2 : List UInt8 := [87, 42, 42, 180, 0, 12, 180, 0, 80, 27, 46, 2, 159, 0, 7, 4, 167, 0, 4, 3, 16, 6, 27]
abbrev dktX3_puts_2 : List UInt8 := dkwX3_puts_2 ++ dktX3_puts_3
def dkwX3_puts_1 : List UInt8 := [87, 42, 42, 180, 0, 12, 28, 29, 154, 0, 7, 4, 167, 0, 4, 3, 182, 0, 83, 7, 28, 182, 0, 73]
abbrev dktX3_puts_1 : List UInt8 := dkwX3_puts_1 ++ dktX3_puts_2
def dkwX3_puts_0 : List UInt8 := [42, 42, 180, 0, 12, 180, 0, 63, 28, 46, 4, 159, 0, 7, 4, 167, 0, 4, 3, 6, 28, 182, 0, 73]
abbrev dktX3_puts_0 : List UInt8 := dkwX3_puts_0 ++ dktX3_puts_1
theorem dksX3_puts_0 : cX3_puts.data.toList.drop 0 = dktX3_puts_0 := by decide +kernel
theorem dksX3_puts_1 : cX3_puts.data.toList.drop 24 = dktX3_puts_1 := dk_seg dksX3_puts_0 24 rfl rfl
theorem dksX3_puts_2 : cX3_puts.data.toList.drop 48 = dktX3_puts_2 := dk_seg dksX3_puts_1 24 rfl rfl
theorem dksX3_puts_3 : cX3_puts.data.toList.drop 71 = dktX3_puts_3 := dk_seg dksX3_puts_2 23 rfl rfl
theorem dksX3_puts_4 : cX3_puts.data.toList.drop 93 = dktX3_puts_4 := dk_seg dksX3_puts_3 22 rfl rfl
theorem dX3_puts_0 : decode cX3_puts 0 = .ok (.aload_n 0, 1) := dk_42 (dk_at dksX3_puts_0 0 rfl rfl)
theorem dX3_puts_1 : decode cX3_puts 1 = .ok (.aload_n 0, 1) := dk_42 (dk_at dksX3_puts_0 1 rfl rfl)
theorem dX3_puts_2 : decode cX3_puts 2 = .ok (.getfield 12, 3) := dk_180 0 12 (dk_at dksX3_puts_0 2 rfl rfl)
theorem dX3_puts_5 : decode cX3_puts 5 = .ok (.getfield 63, 3) := dk_180 0 63 (dk_at dksX3_puts_0 5 rfl rfl)
theorem dX3_puts_8 : decode cX3_puts 8 = .ok (.iload_n 2, 1) := dk_28 (dk_at dksX3_puts_0 8 rfl rfl)
theorem dX3_puts_9 : decode cX3_puts 9 = .ok (.iaload, 1) := dk_46 (dk_at dksX3_puts_0 9 rfl rfl)
theorem dX3_puts_10 : decode cX3_puts 10 = .ok (.iconst 1, 1) := dk_4 (dk_at dksX3_puts_0 10 rfl rfl)
theorem dX3_puts_11 : decode cX3_puts 11 = .ok (.if_icmp .eq 7, 3) := dk_159 0 7 (dk_at dksX3_puts_0 11 rfl rfl)
theorem dX3_puts_14 : decode cX3_puts 14 = .ok (.iconst 1, 1) := dk_4 (dk_at dksX3_puts_0 14 rfl rfl)
theorem dX3_puts_15 : decode cX3_puts 15 = .ok (.goto 4, 3) := dk_167 0 4 (dk_at dksX3_puts_0 15 rfl rfl)
theorem dX3_puts_18 : decode cX3_puts 18 = .ok (.iconst 0, 1) := dk_3 (dk_at dksX3_puts_0 18 rfl rfl)
theorem dX3_puts_19 : decode cX3_puts 19 = .ok (.iconst 3, 1) := dk_6 (dk_at dksX3_puts_0 19 rfl rfl)
theorem dX3_puts_20 : decode cX3_puts 20 = .ok (.iload_n 2, 1) := dk_28 (dk_at dksX3_puts_0 20 rfl rfl)
theorem dX3_puts_21 : decode cX3_puts 21 = .ok (.invokevirtual 73, 3) := dk_182 0 73 (dk_at dksX3_puts_0 21 rfl rfl)
theorem dX3_puts_24 : decode cX3_puts 24 = .ok (.pop, 1) := dk_87 (dk_at dksX3_puts_1 0 rfl rfl)
theorem dX3_puts_25 : decode cX3_puts 25 = .ok (.aload_n 0, 1) := dk_42 (dk_at dksX3_puts_1 1 rfl rfl)
theorem dX3_puts_26 : decode cX3_puts 26 = .ok (.aload_n 0, 1) := dk_42 (dk_at dksX3_puts_1 2 rfl rfl)
theorem dX3_puts_27 : decode cX3_puts 27 = .ok (.getfield 12, 3) := dk_180 0 12 (dk_at dksX3_puts_1 3 rfl rfl)
theorem dX3_puts_30 : decode cX3_puts 30 = .ok (.iload_n 2, 1) := dk_28 (dk_at dksX3_puts_1 6 rfl rfl)
theorem dX3_puts_31 : decode cX3_puts 31 = .ok (.iload_n 3, 1) := dk_29 (dk_at dksX3_puts_1 7 rfl rfl)
theorem dX3_puts_32 : decode cX3_puts 32 = .ok (.ifCond .ne 7, 3) := dk_154 0 7 (dk_at dksX3_puts_1 8 rfl rfl)
theorem dX3_puts_35 : decode cX3_puts 35 = .ok (.iconst 1, 1) := dk_4 (dk_at dksX3_puts_1 11 rfl rfl)
theorem dX3_puts_36 : decode cX3_puts 36 = .ok (.goto 4, 3) := dk_167 0 4 (dk_at dksX3_puts_1 12 rfl rfl)
theorem dX3_puts_39 : decode cX3_puts 39 = .ok (.iconst 0, 1) := dk_3 (dk_at dksX3_puts_1 15 rfl rfl)
theorem dX3_puts_40 : decode cX3_puts 40 = .ok (.invokevirtual 83, 3) := dk_182 0 83 (dk_at dksX3_puts_1 16 rfl rfl)
theorem dX3_puts_43 : decode cX3_puts 43 = .ok (.iconst 4, 1) := dk_7 (dk_at dksX3_puts_1 19 rfl rfl)
theorem dX3_puts_44 : decode cX3_puts 44 = .ok (.iload_n 2, 1) := dk_28 (dk_at dksX3_puts_1 20 rfl rfl)
theorem dX3_puts_45 : decode cX3_puts 45 = .ok (.invokevirtual 73, 3) := dk_182 0 73 (dk_at dksX3_puts_1 21 rfl rfl)
theorem dX3_puts_48 : decode cX3_puts 48 = .ok (.pop, 1) := dk_87 (dk_at dksX3_puts_2 0 rfl rfl)
theorem dX3_puts_49 : decode cX3_puts 49 = .ok (.aload_n 0, 1) := dk_42 (dk_at dksX3_puts_2 1 rfl rfl)
theorem dX3_puts_50 : decode cX3_puts 50 = .ok (.aload_n 0, 1) := dk_42 (dk_at dksX3_puts_2 2 rfl rfl)
theorem dX3_puts_51 : decode cX3_puts 51 = .ok (.getfield 12, 3) := dk_180 0 12 (dk_at dksX3_puts_2 3 rfl rfl)
theorem dX3_puts_54 : decode cX3_puts 54 = .ok (.getfield 80, 3) := dk_180 0 80 (dk_at dksX3_puts_2 6 rfl rfl)
theorem dX3_puts_57 : decode cX3_puts 57 = .ok (.iload_n 1, 1) := dk_27 (dk_at dksX3_puts_2 9 rfl rfl)
theorem dX3_puts_58 : decode cX3_puts 58 = .ok (.iaload, 1) := dk_46 (dk_at dksX3_puts_2 10 rfl rfl)
theorem dX3_puts_59 : decode cX3_puts 59 = .ok (.iconst (-1), 1) := dk_2 (dk_at dksX3_puts_2 11 rfl rfl)
theorem dX3_puts_60 : decode cX3_puts 60 = .ok (.if_icmp .eq 7, 3) := dk_159 0 7 (dk_at dksX3_puts_2 12 rfl rfl)
theorem dX3_puts_63 : decode cX3_puts 63 = .ok (.iconst 1, 1) := dk_4 (dk_at dksX3_puts_2 15 rfl rfl)
theorem dX3_puts_64 : decode cX3_puts 64 = .ok (.goto 4, 3) := dk_167 0 4 (dk_at dksX3_puts_2 16 rfl rfl)
theorem dX3_puts_67 : decode cX3_puts 67 = .ok (.iconst 0, 1) := dk_3 (dk_at dksX3_puts_2 19 rfl rfl)
theorem dX3_puts_68 : decode cX3_puts 68 = .ok (.bipush 6, 2) := dk_16 6 (dk_at dksX3_puts_2 20 rfl rfl)
theorem dX3_puts_70 : decode cX3_puts 70 = .ok (.iload_n 1, 1) := dk_27 (dk_at dksX3_puts_2 22 rfl rfl)
theorem dX3_puts_71 : decode cX3_puts 71 = .ok (.invokevirtual 73, 3) := dk_182 0 73 (dk_at dksX3_puts_3 0 rfl rfl)
theorem dX3_puts_74 : decode cX3_puts 74 = .ok (.pop, 1) := dk_87 (dk_at dksX3_puts_3 3 rfl rfl)
theorem dX3_puts_75 : decode cX3_puts 75 = .ok (.aload_n 0, 1) := dk_42 (dk_at dksX3_puts_3 4 rfl rfl)
theorem dX3_puts_76 : decode cX3_puts 76 = .ok (.getfield 49, 3) := dk_180 0 49 (dk_at dksX3_puts_3 5 rfl rfl)
theorem dX3_puts_79 : decode cX3_puts 79 = .ok (.ifCond .ne 36, 3) := dk_154 0 36 (dk_at dksX3_puts_3 8 rfl rfl)
theorem dX3_puts_82 : decode cX3_puts 82 = .ok (.aload_n 0, 1) := dk_42 (dk_at dksX3_puts_3 11 rfl rfl)
theorem dX3_puts_83 : decode cX3_puts 83 = .ok (.getfield 12, 3) := dk_180 0 12 (dk_at dksX3_puts_3 12 rfl rfl)
theorem dX3_puts_86 : decode cX3_puts 86 = .ok (.getfield 80, 3) := dk_180 0 80 (dk_at dksX3_puts_3 15 rfl rfl)
theorem dX3_puts_89 : decode cX3_puts 89 = .ok (.iload_n 1, 1) := dk_27 (dk_at dksX3_puts_3 18 rfl rfl)
theorem dX3_puts_90 : decode cX3_puts 90 = .ok (.iload_n 2, 1) := dk_28 (dk_at dksX3_puts_3 19 rfl rfl)
theorem dX3_puts_91 : decode cX3_puts 91 = .ok (.iastore, 1) := dk_79 (dk_at dksX3_puts_3 20 rfl rfl)
theorem dX3_puts_92 : decode cX3_puts 92 = .ok (.aload_n 0, 1) := dk_42 (dk_at dksX3_puts_3 21 rfl rfl)
theorem dX3_puts_93 : decode cX3_puts 93 = .ok (.getfield 12, 3) := dk_180 0 12 (dk_at dksX3_puts_4 0 rfl rfl)
theorem dX3_puts_96 : decode cX3_puts 96 = .ok (.getfield 77, 3) := dk_180 0 77 (dk_at dksX3_puts_4 3 rfl rfl)
theorem dX3_puts_99 : decode cX3_puts 99 = .ok (.iload_n 1, 1) := dk_27 (dk_at dksX3_puts_4 6 rfl rfl)
theorem dX3_puts_100 : decode cX3_puts 100 = .ok (.aload_n 0, 1) := dk_42 (dk_at dksX3_puts_4 7 rfl rfl)
theorem dX3_puts_101 : decode cX3_puts 101 = .ok (.getfield 46, 3) := dk_180 0 46 (dk_at dksX3_puts_4 8 rfl rfl)
theorem dX3_puts_104 : decode cX3_puts 104 = .ok (.iastore, 1) := dk_79 (dk_at dksX3_puts_4 11 rfl rfl)
theorem dX3_puts_105 : decode cX3_puts 105 = .ok (.aload_n 0, 1) := dk_42 (dk_at dksX3_puts_4 12 rfl rfl)
theorem dX3_puts_106 : decode cX3_puts 106 = .ok (.getfield 12, 3) := dk_180 0 12 (dk_at dksX3_puts_4 13 rfl rfl)
theorem dX3_puts_109 : decode cX3_puts 109 = .ok (.getfield 87, 3) := dk_180 0 87 (dk_at dksX3_puts_4 16 rfl rfl)
theorem dX3_puts_112 : decode cX3_puts 112 = .ok (.iload_n 1, 1) := dk_27 (dk_at dksX3_puts_4 19 rfl rfl)
theorem dX3_puts_113 : decode cX3_puts 113 = .ok (.iload_n 3, 1) := dk_29 (dk_at dksX3_puts_4 20 rfl rfl)
theorem dX3_puts_114 : decode cX3_puts 114 = .ok (.bastore, 1) := dk_84 (dk_at dksX3_puts_4 21 rfl rfl)
theorem dX3_puts_115 : decode cX3_puts 115 = .ok (.return_, 1) := dk_177 (dk_at dksX3_puts_4 22 rfl rfl)
abbrev cX3_joins : ByteArray := prog_12_method_10_code
def yX3_joins : MethodName := ⟨RX3, "joins", "(LPloughWills$Field;)V"⟩
def dkwX3_joins_5 : List UInt8 := [153, 0, 7, 5, 167, 0, 12, 42, 180, 0, 12, 180, 0, 63, 28, 46, 79, 132, 2, 1, 167, 255, 125, 177]
abbrev dktX3_joins_5 : List UInt8 := dkwX3_joins_5 ++ []
def dkwX3_joins_4 : List UInt8 := [167, 0, 12, 42, 180, 0, 12, 180, 0, 66, 28, 46, 79, 42, 180, 0, 12, 180, 0, 63, 28, 29]
abbrev dktX3_joins_4 : List UInt8 := dkwX3_joins_4 ++ dktX3_joins_5
def dkwX3_joins_3 : List UInt8 := [180, 0, 66, 28, 42, 180, 0, 12, 180, 0, 63, 28, 46, 154, 0, 12, 43, 180, 0, 66, 28, 46]
abbrev dktX3_joins_3 : List UInt8 := dkwX3_joins_3 ++ dktX3_joins_4
def dkwX3_joins_2 : List UInt8 := [182, 0, 69, 154, 0, 7, 4, 167, 0, 4, 3, 16, 8, 28, 182, 0, 73, 87, 42, 180, 0, 12]
abbrev dktX3_joins_2 : List UInt8 := dkwX3_joins_2 ++ dktX3_joins_3
def dkwX3_joins_1 : List UInt8 := [180, 0, 63, 28, 46, 159, 0, 7, 4, 167, 0, 4, 3, 62, 42, 29, 153, 0, 18, 42, 180, 0, 35, 28]
abbrev dktX3_joins_1 : List UInt8 := dkwX3_joins_1 ++ dktX3_joins_2
def dkwX3_joins_0 : List UInt8 := [3, 61, 28, 42, 180, 0, 35, 180, 0, 58, 162, 0, 126, 43, 180, 0, 63, 28, 46, 42, 180, 0, 12]
abbrev dktX3_joins_0 : List UInt8 := dkwX3_joins_0 ++ dktX3_joins_1
theorem dksX3_joins_0 : cX3_joins.data.toList.drop 0 = dktX3_joins_0 := by decide +kernel
theorem dksX3_joins_1 : cX3_joins.data.toList.drop 23 = dktX3_joins_1 := dk_seg dksX3_joins_0 23 rfl rfl
theorem dksX3_joins_2 : cX3_joins.data.toList.drop 47 = dktX3_joins_2 := dk_seg dksX3_joins_1 24 rfl rfl
theorem dksX3_joins_3 : cX3_joins.data.toList.drop 69 = dktX3_joins_3 := dk_seg dksX3_joins_2 22 rfl rfl
theorem dksX3_joins_4 : cX3_joins.data.toList.drop 91 = dktX3_joins_4 := dk_seg dksX3_joins_3 22 rfl rfl
theorem dksX3_joins_5 : cX3_joins.data.toList.drop 113 = dktX3_joins_5 := dk_seg dksX3_joins_4 22 rfl rfl
theorem dX3_joins_0 : decode cX3_joins 0 = .ok (.iconst 0, 1) := dk_3 (dk_at dksX3_joins_0 0 rfl rfl)
theorem dX3_joins_1 : decode cX3_joins 1 = .ok (.istore_n 2, 1) := dk_61 (dk_at dksX3_joins_0 1 rfl rfl)
theorem dX3_joins_2 : decode cX3_joins 2 = .ok (.iload_n 2, 1) := dk_28 (dk_at dksX3_joins_0 2 rfl rfl)
theorem dX3_joins_3 : decode cX3_joins 3 = .ok (.aload_n 0, 1) := dk_42 (dk_at dksX3_joins_0 3 rfl rfl)
theorem dX3_joins_4 : decode cX3_joins 4 = .ok (.getfield 35, 3) := dk_180 0 35 (dk_at dksX3_joins_0 4 rfl rfl)
theorem dX3_joins_7 : decode cX3_joins 7 = .ok (.getfield 58, 3) := dk_180 0 58 (dk_at dksX3_joins_0 7 rfl rfl)
theorem dX3_joins_10 : decode cX3_joins 10 = .ok (.if_icmp .ge 126, 3) := dk_162 0 126 (dk_at dksX3_joins_0 10 rfl rfl)
theorem dX3_joins_13 : decode cX3_joins 13 = .ok (.aload_n 1, 1) := dk_43 (dk_at dksX3_joins_0 13 rfl rfl)
theorem dX3_joins_14 : decode cX3_joins 14 = .ok (.getfield 63, 3) := dk_180 0 63 (dk_at dksX3_joins_0 14 rfl rfl)
theorem dX3_joins_17 : decode cX3_joins 17 = .ok (.iload_n 2, 1) := dk_28 (dk_at dksX3_joins_0 17 rfl rfl)
theorem dX3_joins_18 : decode cX3_joins 18 = .ok (.iaload, 1) := dk_46 (dk_at dksX3_joins_0 18 rfl rfl)
theorem dX3_joins_19 : decode cX3_joins 19 = .ok (.aload_n 0, 1) := dk_42 (dk_at dksX3_joins_0 19 rfl rfl)
theorem dX3_joins_20 : decode cX3_joins 20 = .ok (.getfield 12, 3) := dk_180 0 12 (dk_at dksX3_joins_0 20 rfl rfl)
theorem dX3_joins_23 : decode cX3_joins 23 = .ok (.getfield 63, 3) := dk_180 0 63 (dk_at dksX3_joins_1 0 rfl rfl)
theorem dX3_joins_26 : decode cX3_joins 26 = .ok (.iload_n 2, 1) := dk_28 (dk_at dksX3_joins_1 3 rfl rfl)
theorem dX3_joins_27 : decode cX3_joins 27 = .ok (.iaload, 1) := dk_46 (dk_at dksX3_joins_1 4 rfl rfl)
theorem dX3_joins_28 : decode cX3_joins 28 = .ok (.if_icmp .eq 7, 3) := dk_159 0 7 (dk_at dksX3_joins_1 5 rfl rfl)
theorem dX3_joins_31 : decode cX3_joins 31 = .ok (.iconst 1, 1) := dk_4 (dk_at dksX3_joins_1 8 rfl rfl)
theorem dX3_joins_32 : decode cX3_joins 32 = .ok (.goto 4, 3) := dk_167 0 4 (dk_at dksX3_joins_1 9 rfl rfl)
theorem dX3_joins_35 : decode cX3_joins 35 = .ok (.iconst 0, 1) := dk_3 (dk_at dksX3_joins_1 12 rfl rfl)
theorem dX3_joins_36 : decode cX3_joins 36 = .ok (.istore_n 3, 1) := dk_62 (dk_at dksX3_joins_1 13 rfl rfl)
theorem dX3_joins_37 : decode cX3_joins 37 = .ok (.aload_n 0, 1) := dk_42 (dk_at dksX3_joins_1 14 rfl rfl)
theorem dX3_joins_38 : decode cX3_joins 38 = .ok (.iload_n 3, 1) := dk_29 (dk_at dksX3_joins_1 15 rfl rfl)
theorem dX3_joins_39 : decode cX3_joins 39 = .ok (.ifCond .eq 18, 3) := dk_153 0 18 (dk_at dksX3_joins_1 16 rfl rfl)
theorem dX3_joins_42 : decode cX3_joins 42 = .ok (.aload_n 0, 1) := dk_42 (dk_at dksX3_joins_1 19 rfl rfl)
theorem dX3_joins_43 : decode cX3_joins 43 = .ok (.getfield 35, 3) := dk_180 0 35 (dk_at dksX3_joins_1 20 rfl rfl)
theorem dX3_joins_46 : decode cX3_joins 46 = .ok (.iload_n 2, 1) := dk_28 (dk_at dksX3_joins_1 23 rfl rfl)
theorem dX3_joins_47 : decode cX3_joins 47 = .ok (.invokevirtual 69, 3) := dk_182 0 69 (dk_at dksX3_joins_2 0 rfl rfl)
theorem dX3_joins_50 : decode cX3_joins 50 = .ok (.ifCond .ne 7, 3) := dk_154 0 7 (dk_at dksX3_joins_2 3 rfl rfl)
theorem dX3_joins_53 : decode cX3_joins 53 = .ok (.iconst 1, 1) := dk_4 (dk_at dksX3_joins_2 6 rfl rfl)
theorem dX3_joins_54 : decode cX3_joins 54 = .ok (.goto 4, 3) := dk_167 0 4 (dk_at dksX3_joins_2 7 rfl rfl)
theorem dX3_joins_57 : decode cX3_joins 57 = .ok (.iconst 0, 1) := dk_3 (dk_at dksX3_joins_2 10 rfl rfl)
theorem dX3_joins_58 : decode cX3_joins 58 = .ok (.bipush 8, 2) := dk_16 8 (dk_at dksX3_joins_2 11 rfl rfl)
theorem dX3_joins_60 : decode cX3_joins 60 = .ok (.iload_n 2, 1) := dk_28 (dk_at dksX3_joins_2 13 rfl rfl)
theorem dX3_joins_61 : decode cX3_joins 61 = .ok (.invokevirtual 73, 3) := dk_182 0 73 (dk_at dksX3_joins_2 14 rfl rfl)
theorem dX3_joins_64 : decode cX3_joins 64 = .ok (.pop, 1) := dk_87 (dk_at dksX3_joins_2 17 rfl rfl)
theorem dX3_joins_65 : decode cX3_joins 65 = .ok (.aload_n 0, 1) := dk_42 (dk_at dksX3_joins_2 18 rfl rfl)
theorem dX3_joins_66 : decode cX3_joins 66 = .ok (.getfield 12, 3) := dk_180 0 12 (dk_at dksX3_joins_2 19 rfl rfl)
theorem dX3_joins_69 : decode cX3_joins 69 = .ok (.getfield 66, 3) := dk_180 0 66 (dk_at dksX3_joins_3 0 rfl rfl)
theorem dX3_joins_72 : decode cX3_joins 72 = .ok (.iload_n 2, 1) := dk_28 (dk_at dksX3_joins_3 3 rfl rfl)
theorem dX3_joins_73 : decode cX3_joins 73 = .ok (.aload_n 0, 1) := dk_42 (dk_at dksX3_joins_3 4 rfl rfl)
theorem dX3_joins_74 : decode cX3_joins 74 = .ok (.getfield 12, 3) := dk_180 0 12 (dk_at dksX3_joins_3 5 rfl rfl)
theorem dX3_joins_77 : decode cX3_joins 77 = .ok (.getfield 63, 3) := dk_180 0 63 (dk_at dksX3_joins_3 8 rfl rfl)
theorem dX3_joins_80 : decode cX3_joins 80 = .ok (.iload_n 2, 1) := dk_28 (dk_at dksX3_joins_3 11 rfl rfl)
theorem dX3_joins_81 : decode cX3_joins 81 = .ok (.iaload, 1) := dk_46 (dk_at dksX3_joins_3 12 rfl rfl)
theorem dX3_joins_82 : decode cX3_joins 82 = .ok (.ifCond .ne 12, 3) := dk_154 0 12 (dk_at dksX3_joins_3 13 rfl rfl)
theorem dX3_joins_85 : decode cX3_joins 85 = .ok (.aload_n 1, 1) := dk_43 (dk_at dksX3_joins_3 16 rfl rfl)
theorem dX3_joins_86 : decode cX3_joins 86 = .ok (.getfield 66, 3) := dk_180 0 66 (dk_at dksX3_joins_3 17 rfl rfl)
theorem dX3_joins_89 : decode cX3_joins 89 = .ok (.iload_n 2, 1) := dk_28 (dk_at dksX3_joins_3 20 rfl rfl)
theorem dX3_joins_90 : decode cX3_joins 90 = .ok (.iaload, 1) := dk_46 (dk_at dksX3_joins_3 21 rfl rfl)
theorem dX3_joins_91 : decode cX3_joins 91 = .ok (.goto 12, 3) := dk_167 0 12 (dk_at dksX3_joins_4 0 rfl rfl)
theorem dX3_joins_94 : decode cX3_joins 94 = .ok (.aload_n 0, 1) := dk_42 (dk_at dksX3_joins_4 3 rfl rfl)
theorem dX3_joins_95 : decode cX3_joins 95 = .ok (.getfield 12, 3) := dk_180 0 12 (dk_at dksX3_joins_4 4 rfl rfl)
theorem dX3_joins_98 : decode cX3_joins 98 = .ok (.getfield 66, 3) := dk_180 0 66 (dk_at dksX3_joins_4 7 rfl rfl)
theorem dX3_joins_101 : decode cX3_joins 101 = .ok (.iload_n 2, 1) := dk_28 (dk_at dksX3_joins_4 10 rfl rfl)
theorem dX3_joins_102 : decode cX3_joins 102 = .ok (.iaload, 1) := dk_46 (dk_at dksX3_joins_4 11 rfl rfl)
theorem dX3_joins_103 : decode cX3_joins 103 = .ok (.iastore, 1) := dk_79 (dk_at dksX3_joins_4 12 rfl rfl)
theorem dX3_joins_104 : decode cX3_joins 104 = .ok (.aload_n 0, 1) := dk_42 (dk_at dksX3_joins_4 13 rfl rfl)
theorem dX3_joins_105 : decode cX3_joins 105 = .ok (.getfield 12, 3) := dk_180 0 12 (dk_at dksX3_joins_4 14 rfl rfl)
theorem dX3_joins_108 : decode cX3_joins 108 = .ok (.getfield 63, 3) := dk_180 0 63 (dk_at dksX3_joins_4 17 rfl rfl)
theorem dX3_joins_111 : decode cX3_joins 111 = .ok (.iload_n 2, 1) := dk_28 (dk_at dksX3_joins_4 20 rfl rfl)
theorem dX3_joins_112 : decode cX3_joins 112 = .ok (.iload_n 3, 1) := dk_29 (dk_at dksX3_joins_4 21 rfl rfl)
theorem dX3_joins_113 : decode cX3_joins 113 = .ok (.ifCond .eq 7, 3) := dk_153 0 7 (dk_at dksX3_joins_5 0 rfl rfl)
theorem dX3_joins_116 : decode cX3_joins 116 = .ok (.iconst 2, 1) := dk_5 (dk_at dksX3_joins_5 3 rfl rfl)
theorem dX3_joins_117 : decode cX3_joins 117 = .ok (.goto 12, 3) := dk_167 0 12 (dk_at dksX3_joins_5 4 rfl rfl)
theorem dX3_joins_120 : decode cX3_joins 120 = .ok (.aload_n 0, 1) := dk_42 (dk_at dksX3_joins_5 7 rfl rfl)
theorem dX3_joins_121 : decode cX3_joins 121 = .ok (.getfield 12, 3) := dk_180 0 12 (dk_at dksX3_joins_5 8 rfl rfl)
theorem dX3_joins_124 : decode cX3_joins 124 = .ok (.getfield 63, 3) := dk_180 0 63 (dk_at dksX3_joins_5 11 rfl rfl)
theorem dX3_joins_127 : decode cX3_joins 127 = .ok (.iload_n 2, 1) := dk_28 (dk_at dksX3_joins_5 14 rfl rfl)
theorem dX3_joins_128 : decode cX3_joins 128 = .ok (.iaload, 1) := dk_46 (dk_at dksX3_joins_5 15 rfl rfl)
theorem dX3_joins_129 : decode cX3_joins 129 = .ok (.iastore, 1) := dk_79 (dk_at dksX3_joins_5 16 rfl rfl)
theorem dX3_joins_130 : decode cX3_joins 130 = .ok (.iinc 2 1, 3) := dk_132 2 1 (dk_at dksX3_joins_5 17 rfl rfl)
theorem dX3_joins_133 : decode cX3_joins 133 = .ok (.goto (-131), 3) := dk_167 255 125 (dk_at dksX3_joins_5 20 rfl rfl)
theorem dX3_joins_136 : decode cX3_joins 136 = .ok (.return_, 1) := dk_177 (dk_at dksX3_joins_5 23 rfl rfl)
abbrev cX3_through : ByteArray := prog_12_method_13_code
def yX3_through : MethodName := ⟨RX3, "through", "(LPloughWills$Will;I)V"⟩
def dkwX3_through_6 : List UInt8 := [2, 181, 0, 52, 177]
abbrev dktX3_through_6 : List UInt8 := dkwX3_through_6 ++ []
def dkwX3_through_5 : List UInt8 := [153, 0, 7, 4, 167, 0, 4, 3, 62, 42, 42, 180, 0, 49, 158, 0, 10, 43, 180, 0, 137, 167, 0, 4]
abbrev dktX3_through_5 : List UInt8 := dkwX3_through_5 ++ dktX3_through_6
def dkwX3_through_4 : List UInt8 := [180, 0, 25, 42, 180, 0, 46, 46, 182, 0, 73, 87, 42, 180, 0, 49, 154, 0, 14, 42, 182, 0, 105]
abbrev dktX3_through_4 : List UInt8 := dkwX3_through_4 ++ dktX3_through_5
def dkwX3_through_3 : List UInt8 := [42, 43, 180, 0, 137, 182, 0, 140, 42, 42, 180, 0, 46, 158, 0, 7, 4, 167, 0, 4, 3, 4, 42]
abbrev dktX3_through_3 : List UInt8 := dkwX3_through_3 ++ dktX3_through_4
def dkwX3_through_2 : List UInt8 := [158, 0, 7, 29, 167, 0, 4, 2, 181, 0, 52, 132, 3, 1, 167, 255, 210, 42, 180, 0, 49, 154, 0, 77]
abbrev dktX3_through_2 : List UInt8 := dkwX3_through_2 ++ dktX3_through_3
def dkwX3_through_1 : List UInt8 := [180, 0, 49, 154, 0, 37, 42, 29, 182, 0, 140, 42, 29, 3, 3, 182, 0, 143, 42, 42, 180, 0, 49]
abbrev dktX3_through_1 : List UInt8 := dkwX3_through_1 ++ dktX3_through_2
def dkwX3_through_0 : List UInt8 := [42, 43, 28, 182, 0, 134, 42, 1, 181, 0, 29, 3, 62, 29, 43, 180, 0, 137, 162, 0, 44, 42]
abbrev dktX3_through_0 : List UInt8 := dkwX3_through_0 ++ dktX3_through_1
theorem dksX3_through_0 : cX3_through.data.toList.drop 0 = dktX3_through_0 := by decide +kernel
theorem dksX3_through_1 : cX3_through.data.toList.drop 22 = dktX3_through_1 := dk_seg dksX3_through_0 22 rfl rfl
theorem dksX3_through_2 : cX3_through.data.toList.drop 45 = dktX3_through_2 := dk_seg dksX3_through_1 23 rfl rfl
theorem dksX3_through_3 : cX3_through.data.toList.drop 69 = dktX3_through_3 := dk_seg dksX3_through_2 24 rfl rfl
theorem dksX3_through_4 : cX3_through.data.toList.drop 92 = dktX3_through_4 := dk_seg dksX3_through_3 23 rfl rfl
theorem dksX3_through_5 : cX3_through.data.toList.drop 115 = dktX3_through_5 := dk_seg dksX3_through_4 23 rfl rfl
theorem dksX3_through_6 : cX3_through.data.toList.drop 139 = dktX3_through_6 := dk_seg dksX3_through_5 24 rfl rfl
theorem dX3_through_0 : decode cX3_through 0 = .ok (.aload_n 0, 1) := dk_42 (dk_at dksX3_through_0 0 rfl rfl)
theorem dX3_through_1 : decode cX3_through 1 = .ok (.aload_n 1, 1) := dk_43 (dk_at dksX3_through_0 1 rfl rfl)
theorem dX3_through_2 : decode cX3_through 2 = .ok (.iload_n 2, 1) := dk_28 (dk_at dksX3_through_0 2 rfl rfl)
theorem dX3_through_3 : decode cX3_through 3 = .ok (.invokevirtual 134, 3) := dk_182 0 134 (dk_at dksX3_through_0 3 rfl rfl)
theorem dX3_through_6 : decode cX3_through 6 = .ok (.aload_n 0, 1) := dk_42 (dk_at dksX3_through_0 6 rfl rfl)
theorem dX3_through_7 : decode cX3_through 7 = .ok (.aconst_null, 1) := dk_1 (dk_at dksX3_through_0 7 rfl rfl)
theorem dX3_through_8 : decode cX3_through 8 = .ok (.putfield 29, 3) := dk_181 0 29 (dk_at dksX3_through_0 8 rfl rfl)
theorem dX3_through_11 : decode cX3_through 11 = .ok (.iconst 0, 1) := dk_3 (dk_at dksX3_through_0 11 rfl rfl)
theorem dX3_through_12 : decode cX3_through 12 = .ok (.istore_n 3, 1) := dk_62 (dk_at dksX3_through_0 12 rfl rfl)
theorem dX3_through_13 : decode cX3_through 13 = .ok (.iload_n 3, 1) := dk_29 (dk_at dksX3_through_0 13 rfl rfl)
theorem dX3_through_14 : decode cX3_through 14 = .ok (.aload_n 1, 1) := dk_43 (dk_at dksX3_through_0 14 rfl rfl)
theorem dX3_through_15 : decode cX3_through 15 = .ok (.getfield 137, 3) := dk_180 0 137 (dk_at dksX3_through_0 15 rfl rfl)
theorem dX3_through_18 : decode cX3_through 18 = .ok (.if_icmp .ge 44, 3) := dk_162 0 44 (dk_at dksX3_through_0 18 rfl rfl)
theorem dX3_through_21 : decode cX3_through 21 = .ok (.aload_n 0, 1) := dk_42 (dk_at dksX3_through_0 21 rfl rfl)
theorem dX3_through_22 : decode cX3_through 22 = .ok (.getfield 49, 3) := dk_180 0 49 (dk_at dksX3_through_1 0 rfl rfl)
theorem dX3_through_25 : decode cX3_through 25 = .ok (.ifCond .ne 37, 3) := dk_154 0 37 (dk_at dksX3_through_1 3 rfl rfl)
theorem dX3_through_28 : decode cX3_through 28 = .ok (.aload_n 0, 1) := dk_42 (dk_at dksX3_through_1 6 rfl rfl)
theorem dX3_through_29 : decode cX3_through 29 = .ok (.iload_n 3, 1) := dk_29 (dk_at dksX3_through_1 7 rfl rfl)
theorem dX3_through_30 : decode cX3_through 30 = .ok (.invokevirtual 140, 3) := dk_182 0 140 (dk_at dksX3_through_1 8 rfl rfl)
theorem dX3_through_33 : decode cX3_through 33 = .ok (.aload_n 0, 1) := dk_42 (dk_at dksX3_through_1 11 rfl rfl)
theorem dX3_through_34 : decode cX3_through 34 = .ok (.iload_n 3, 1) := dk_29 (dk_at dksX3_through_1 12 rfl rfl)
theorem dX3_through_35 : decode cX3_through 35 = .ok (.iconst 0, 1) := dk_3 (dk_at dksX3_through_1 13 rfl rfl)
theorem dX3_through_36 : decode cX3_through 36 = .ok (.iconst 0, 1) := dk_3 (dk_at dksX3_through_1 14 rfl rfl)
theorem dX3_through_37 : decode cX3_through 37 = .ok (.invokevirtual 143, 3) := dk_182 0 143 (dk_at dksX3_through_1 15 rfl rfl)
theorem dX3_through_40 : decode cX3_through 40 = .ok (.aload_n 0, 1) := dk_42 (dk_at dksX3_through_1 18 rfl rfl)
theorem dX3_through_41 : decode cX3_through 41 = .ok (.aload_n 0, 1) := dk_42 (dk_at dksX3_through_1 19 rfl rfl)
theorem dX3_through_42 : decode cX3_through 42 = .ok (.getfield 49, 3) := dk_180 0 49 (dk_at dksX3_through_1 20 rfl rfl)
theorem dX3_through_45 : decode cX3_through 45 = .ok (.ifCond .le 7, 3) := dk_158 0 7 (dk_at dksX3_through_2 0 rfl rfl)
theorem dX3_through_48 : decode cX3_through 48 = .ok (.iload_n 3, 1) := dk_29 (dk_at dksX3_through_2 3 rfl rfl)
theorem dX3_through_49 : decode cX3_through 49 = .ok (.goto 4, 3) := dk_167 0 4 (dk_at dksX3_through_2 4 rfl rfl)
theorem dX3_through_52 : decode cX3_through 52 = .ok (.iconst (-1), 1) := dk_2 (dk_at dksX3_through_2 7 rfl rfl)
theorem dX3_through_53 : decode cX3_through 53 = .ok (.putfield 52, 3) := dk_181 0 52 (dk_at dksX3_through_2 8 rfl rfl)
theorem dX3_through_56 : decode cX3_through 56 = .ok (.iinc 3 1, 3) := dk_132 3 1 (dk_at dksX3_through_2 11 rfl rfl)
theorem dX3_through_59 : decode cX3_through 59 = .ok (.goto (-46), 3) := dk_167 255 210 (dk_at dksX3_through_2 14 rfl rfl)
theorem dX3_through_62 : decode cX3_through 62 = .ok (.aload_n 0, 1) := dk_42 (dk_at dksX3_through_2 17 rfl rfl)
theorem dX3_through_63 : decode cX3_through 63 = .ok (.getfield 49, 3) := dk_180 0 49 (dk_at dksX3_through_2 18 rfl rfl)
theorem dX3_through_66 : decode cX3_through 66 = .ok (.ifCond .ne 77, 3) := dk_154 0 77 (dk_at dksX3_through_2 21 rfl rfl)
theorem dX3_through_69 : decode cX3_through 69 = .ok (.aload_n 0, 1) := dk_42 (dk_at dksX3_through_3 0 rfl rfl)
theorem dX3_through_70 : decode cX3_through 70 = .ok (.aload_n 1, 1) := dk_43 (dk_at dksX3_through_3 1 rfl rfl)
theorem dX3_through_71 : decode cX3_through 71 = .ok (.getfield 137, 3) := dk_180 0 137 (dk_at dksX3_through_3 2 rfl rfl)
theorem dX3_through_74 : decode cX3_through 74 = .ok (.invokevirtual 140, 3) := dk_182 0 140 (dk_at dksX3_through_3 5 rfl rfl)
theorem dX3_through_77 : decode cX3_through 77 = .ok (.aload_n 0, 1) := dk_42 (dk_at dksX3_through_3 8 rfl rfl)
theorem dX3_through_78 : decode cX3_through 78 = .ok (.aload_n 0, 1) := dk_42 (dk_at dksX3_through_3 9 rfl rfl)
theorem dX3_through_79 : decode cX3_through 79 = .ok (.getfield 46, 3) := dk_180 0 46 (dk_at dksX3_through_3 10 rfl rfl)
theorem dX3_through_82 : decode cX3_through 82 = .ok (.ifCond .le 7, 3) := dk_158 0 7 (dk_at dksX3_through_3 13 rfl rfl)
theorem dX3_through_85 : decode cX3_through 85 = .ok (.iconst 1, 1) := dk_4 (dk_at dksX3_through_3 16 rfl rfl)
theorem dX3_through_86 : decode cX3_through 86 = .ok (.goto 4, 3) := dk_167 0 4 (dk_at dksX3_through_3 17 rfl rfl)
theorem dX3_through_89 : decode cX3_through 89 = .ok (.iconst 0, 1) := dk_3 (dk_at dksX3_through_3 20 rfl rfl)
theorem dX3_through_90 : decode cX3_through 90 = .ok (.iconst 1, 1) := dk_4 (dk_at dksX3_through_3 21 rfl rfl)
theorem dX3_through_91 : decode cX3_through 91 = .ok (.aload_n 0, 1) := dk_42 (dk_at dksX3_through_3 22 rfl rfl)
theorem dX3_through_92 : decode cX3_through 92 = .ok (.getfield 25, 3) := dk_180 0 25 (dk_at dksX3_through_4 0 rfl rfl)
theorem dX3_through_95 : decode cX3_through 95 = .ok (.aload_n 0, 1) := dk_42 (dk_at dksX3_through_4 3 rfl rfl)
theorem dX3_through_96 : decode cX3_through 96 = .ok (.getfield 46, 3) := dk_180 0 46 (dk_at dksX3_through_4 4 rfl rfl)
theorem dX3_through_99 : decode cX3_through 99 = .ok (.iaload, 1) := dk_46 (dk_at dksX3_through_4 7 rfl rfl)
theorem dX3_through_100 : decode cX3_through 100 = .ok (.invokevirtual 73, 3) := dk_182 0 73 (dk_at dksX3_through_4 8 rfl rfl)
theorem dX3_through_103 : decode cX3_through 103 = .ok (.pop, 1) := dk_87 (dk_at dksX3_through_4 11 rfl rfl)
theorem dX3_through_104 : decode cX3_through 104 = .ok (.aload_n 0, 1) := dk_42 (dk_at dksX3_through_4 12 rfl rfl)
theorem dX3_through_105 : decode cX3_through 105 = .ok (.getfield 49, 3) := dk_180 0 49 (dk_at dksX3_through_4 13 rfl rfl)
theorem dX3_through_108 : decode cX3_through 108 = .ok (.ifCond .ne 14, 3) := dk_154 0 14 (dk_at dksX3_through_4 16 rfl rfl)
theorem dX3_through_111 : decode cX3_through 111 = .ok (.aload_n 0, 1) := dk_42 (dk_at dksX3_through_4 19 rfl rfl)
theorem dX3_through_112 : decode cX3_through 112 = .ok (.invokevirtual 105, 3) := dk_182 0 105 (dk_at dksX3_through_4 20 rfl rfl)
theorem dX3_through_115 : decode cX3_through 115 = .ok (.ifCond .eq 7, 3) := dk_153 0 7 (dk_at dksX3_through_5 0 rfl rfl)
theorem dX3_through_118 : decode cX3_through 118 = .ok (.iconst 1, 1) := dk_4 (dk_at dksX3_through_5 3 rfl rfl)
theorem dX3_through_119 : decode cX3_through 119 = .ok (.goto 4, 3) := dk_167 0 4 (dk_at dksX3_through_5 4 rfl rfl)
theorem dX3_through_122 : decode cX3_through 122 = .ok (.iconst 0, 1) := dk_3 (dk_at dksX3_through_5 7 rfl rfl)
theorem dX3_through_123 : decode cX3_through 123 = .ok (.istore_n 3, 1) := dk_62 (dk_at dksX3_through_5 8 rfl rfl)
theorem dX3_through_124 : decode cX3_through 124 = .ok (.aload_n 0, 1) := dk_42 (dk_at dksX3_through_5 9 rfl rfl)
theorem dX3_through_125 : decode cX3_through 125 = .ok (.aload_n 0, 1) := dk_42 (dk_at dksX3_through_5 10 rfl rfl)
theorem dX3_through_126 : decode cX3_through 126 = .ok (.getfield 49, 3) := dk_180 0 49 (dk_at dksX3_through_5 11 rfl rfl)
theorem dX3_through_129 : decode cX3_through 129 = .ok (.ifCond .le 10, 3) := dk_158 0 10 (dk_at dksX3_through_5 14 rfl rfl)
theorem dX3_through_132 : decode cX3_through 132 = .ok (.aload_n 1, 1) := dk_43 (dk_at dksX3_through_5 17 rfl rfl)
theorem dX3_through_133 : decode cX3_through 133 = .ok (.getfield 137, 3) := dk_180 0 137 (dk_at dksX3_through_5 18 rfl rfl)
theorem dX3_through_136 : decode cX3_through 136 = .ok (.goto 4, 3) := dk_167 0 4 (dk_at dksX3_through_5 21 rfl rfl)
theorem dX3_through_139 : decode cX3_through 139 = .ok (.iconst (-1), 1) := dk_2 (dk_at dksX3_through_6 0 rfl rfl)
theorem dX3_through_140 : decode cX3_through 140 = .ok (.putfield 52, 3) := dk_181 0 52 (dk_at dksX3_through_6 1 rfl rfl)
theorem dX3_through_143 : decode cX3_through 143 = .ok (.return_, 1) := dk_177 (dk_at dksX3_through_6 4 rfl rfl)
abbrev cX3_ahead : ByteArray := prog_12_method_12_code
def yX3_ahead : MethodName := ⟨RX3, "ahead", "(I)V"⟩
def dkwX3_ahead_1 : List UInt8 := [181, 0, 29, 42, 42, 180, 0, 12, 180, 0, 80, 182, 0, 129, 192, 0, 130, 181, 0, 32, 177]
abbrev dktX3_ahead_1 : List UInt8 := dkwX3_ahead_1 ++ []
def dkwX3_ahead_0 : List UInt8 := [27, 42, 180, 0, 39, 160, 0, 37, 42, 42, 180, 0, 12, 180, 0, 63, 182, 0, 129, 192, 0, 130]
abbrev dktX3_ahead_0 : List UInt8 := dkwX3_ahead_0 ++ dktX3_ahead_1
theorem dksX3_ahead_0 : cX3_ahead.data.toList.drop 0 = dktX3_ahead_0 := by decide +kernel
theorem dksX3_ahead_1 : cX3_ahead.data.toList.drop 22 = dktX3_ahead_1 := dk_seg dksX3_ahead_0 22 rfl rfl
theorem dX3_ahead_0 : decode cX3_ahead 0 = .ok (.iload_n 1, 1) := dk_27 (dk_at dksX3_ahead_0 0 rfl rfl)
theorem dX3_ahead_1 : decode cX3_ahead 1 = .ok (.aload_n 0, 1) := dk_42 (dk_at dksX3_ahead_0 1 rfl rfl)
theorem dX3_ahead_2 : decode cX3_ahead 2 = .ok (.getfield 39, 3) := dk_180 0 39 (dk_at dksX3_ahead_0 2 rfl rfl)
theorem dX3_ahead_5 : decode cX3_ahead 5 = .ok (.if_icmp .ne 37, 3) := dk_160 0 37 (dk_at dksX3_ahead_0 5 rfl rfl)
theorem dX3_ahead_8 : decode cX3_ahead 8 = .ok (.aload_n 0, 1) := dk_42 (dk_at dksX3_ahead_0 8 rfl rfl)
theorem dX3_ahead_9 : decode cX3_ahead 9 = .ok (.aload_n 0, 1) := dk_42 (dk_at dksX3_ahead_0 9 rfl rfl)
theorem dX3_ahead_10 : decode cX3_ahead 10 = .ok (.getfield 12, 3) := dk_180 0 12 (dk_at dksX3_ahead_0 10 rfl rfl)
theorem dX3_ahead_13 : decode cX3_ahead 13 = .ok (.getfield 63, 3) := dk_180 0 63 (dk_at dksX3_ahead_0 13 rfl rfl)
theorem dX3_ahead_16 : decode cX3_ahead 16 = .ok (.invokevirtual 129, 3) := dk_182 0 129 (dk_at dksX3_ahead_0 16 rfl rfl)
theorem dX3_ahead_19 : decode cX3_ahead 19 = .ok (.checkcast 130, 3) := dk_192 0 130 (dk_at dksX3_ahead_0 19 rfl rfl)
theorem dX3_ahead_22 : decode cX3_ahead 22 = .ok (.putfield 29, 3) := dk_181 0 29 (dk_at dksX3_ahead_1 0 rfl rfl)
theorem dX3_ahead_25 : decode cX3_ahead 25 = .ok (.aload_n 0, 1) := dk_42 (dk_at dksX3_ahead_1 3 rfl rfl)
theorem dX3_ahead_26 : decode cX3_ahead 26 = .ok (.aload_n 0, 1) := dk_42 (dk_at dksX3_ahead_1 4 rfl rfl)
theorem dX3_ahead_27 : decode cX3_ahead 27 = .ok (.getfield 12, 3) := dk_180 0 12 (dk_at dksX3_ahead_1 5 rfl rfl)
theorem dX3_ahead_30 : decode cX3_ahead 30 = .ok (.getfield 80, 3) := dk_180 0 80 (dk_at dksX3_ahead_1 8 rfl rfl)
theorem dX3_ahead_33 : decode cX3_ahead 33 = .ok (.invokevirtual 129, 3) := dk_182 0 129 (dk_at dksX3_ahead_1 11 rfl rfl)
theorem dX3_ahead_36 : decode cX3_ahead 36 = .ok (.checkcast 130, 3) := dk_192 0 130 (dk_at dksX3_ahead_1 14 rfl rfl)
theorem dX3_ahead_39 : decode cX3_ahead 39 = .ok (.putfield 32, 3) := dk_181 0 32 (dk_at dksX3_ahead_1 17 rfl rfl)
theorem dX3_ahead_42 : decode cX3_ahead 42 = .ok (.return_, 1) := dk_177 (dk_at dksX3_ahead_1 20 rfl rfl)
theorem q80 : (Jvm.Cond.initialized "PloughWills$Walk") ∈ lw_all := lw_g (lw_at lw_m1 5 rfl) rfl
theorem q156 : (Jvm.Cond.fieldLinkNest "PloughWills$Walk" (94 : Nat) "PloughWills$Will" "sorts" "[I" "PloughWills") ∈ lw_tbl := lw_at lw_m1 81 rfl
theorem q159 : (Jvm.Cond.fieldLinkNest "PloughWills$Walk" (91 : Nat) "PloughWills$Will" "ones" "[I" "PloughWills") ∈ lw_tbl := lw_at lw_m1 84 rfl
theorem q162 : (Jvm.Cond.fieldLinkNest "PloughWills$Walk" (115 : Nat) "PloughWills$Will" "others" "[I" "PloughWills") ∈ lw_tbl := lw_at lw_m1 87 rfl
theorem q165 : (Jvm.Cond.fieldLinkNest "PloughWills$Walk" (58 : Nat) "PloughWills$Will" "many" "I" "PloughWills") ∈ lw_tbl := lw_at lw_m1 90 rfl
theorem q170 : (Jvm.Cond.fieldLinkNest "PloughWills$Walk" (137 : Nat) "PloughWills$Will" "size" "I" "PloughWills") ∈ lw_tbl := lw_at lw_m1 95 rfl
theorem q219 : (Jvm.Cond.instantiable "PloughWills$Walk" (12 : Nat)) ∈ lw_all := lw_g (lw_at lw_m1 144 rfl) rfl
theorem q221 : (Jvm.Cond.instanceMethod ({ cls := "PloughWills$Walk", name := "<init>", desc := "()V" } : Jvm.MethodName)) ∈ lw_all := lw_g (lw_at lw_m1 146 rfl) rfl
theorem q222 : (Jvm.Cond.code ({ cls := "PloughWills$Walk", name := "<init>", desc := "()V" } : Jvm.MethodName) prog_12_method_1_code (2 : Nat) (Option.none : Option Jvm.ClassFile.FieldType)) ∈ lw_all := lw_g (lw_at lw_m1 147 rfl) rfl
theorem q223 : (Jvm.Cond.methodLink "PloughWills$Walk" (3 : Nat) ({ cls := "java/lang/Object", name := "<init>", desc := "()V" } : Jvm.MethodName)) ∈ lw_all := lw_g (lw_at lw_m1 148 rfl) rfl
theorem q224 : (Jvm.Cond.classLink "PloughWills$Walk" (9 : Nat) "PloughWills$Field") ∈ lw_all := lw_g (lw_at lw_m1 149 rfl) rfl
theorem q226 : (Jvm.Cond.methodLinkNest "PloughWills$Walk" (11 : Nat) ({ cls := "PloughWills$Field", name := "<init>", desc := "()V" } : Jvm.MethodName) "PloughWills") ∈ lw_tbl := lw_at lw_m1 151 rfl
theorem q231 : (Jvm.Cond.fieldLinkNest "PloughWills$Walk" (63 : Nat) "PloughWills$Field" "goods" "[I" "PloughWills") ∈ lw_tbl := lw_at lw_m1 156 rfl
theorem q233 : (Jvm.Cond.fieldLinkNest "PloughWills$Walk" (66 : Nat) "PloughWills$Field" "depths" "[I" "PloughWills") ∈ lw_tbl := lw_at lw_m1 158 rfl
theorem q235 : (Jvm.Cond.fieldLinkNest "PloughWills$Walk" (80 : Nat) "PloughWills$Field" "on" "[I" "PloughWills") ∈ lw_tbl := lw_at lw_m1 160 rfl
theorem q237 : (Jvm.Cond.fieldLinkNest "PloughWills$Walk" (77 : Nat) "PloughWills$Field" "since" "[I" "PloughWills") ∈ lw_tbl := lw_at lw_m1 162 rfl
theorem q239 : (Jvm.Cond.fieldLinkNest "PloughWills$Walk" (87 : Nat) "PloughWills$Field" "isWork" "[Z" "PloughWills") ∈ lw_tbl := lw_at lw_m1 164 rfl
theorem q253 : (Jvm.Cond.fieldLink "PloughWills$Walk" (35 : Nat) "PloughWills$Walk" "will" "LPloughWills$Will;") ∈ lw_all := lw_g (lw_at lw_m1 178 rfl) rfl
theorem q254 : (Jvm.Cond.fieldLink "PloughWills$Walk" (12 : Nat) "PloughWills$Walk" "field" "LPloughWills$Field;") ∈ lw_all := lw_g (lw_at lw_m1 179 rfl) rfl
theorem q255 : (Jvm.Cond.fieldLink "PloughWills$Walk" (18 : Nat) "PloughWills$Walk" "began" "[LPloughWills$Field;") ∈ lw_all := lw_g (lw_at lw_m1 180 rfl) rfl
theorem q256 : (Jvm.Cond.fieldLink "PloughWills$Walk" (22 : Nat) "PloughWills$Walk" "behind" "[LPloughWills$Field;") ∈ lw_all := lw_g (lw_at lw_m1 181 rfl) rfl
theorem q257 : (Jvm.Cond.fieldLink "PloughWills$Walk" (25 : Nat) "PloughWills$Walk" "ends" "[I") ∈ lw_all := lw_g (lw_at lw_m1 182 rfl) rfl
theorem q258 : (Jvm.Cond.fieldLink "PloughWills$Walk" (46 : Nat) "PloughWills$Walk" "depth" "I") ∈ lw_all := lw_g (lw_at lw_m1 183 rfl) rfl
theorem q259 : (Jvm.Cond.fieldLink "PloughWills$Walk" (49 : Nat) "PloughWills$Walk" "reason" "I") ∈ lw_all := lw_g (lw_at lw_m1 184 rfl) rfl
theorem q261 : (Jvm.Cond.fieldLink "PloughWills$Walk" (52 : Nat) "PloughWills$Walk" "place" "I") ∈ lw_all := lw_g (lw_at lw_m1 186 rfl) rfl
theorem q263 : (Jvm.Cond.fieldLink "PloughWills$Walk" (55 : Nat) "PloughWills$Walk" "detail" "I") ∈ lw_all := lw_g (lw_at lw_m1 188 rfl) rfl
theorem q265 : (Jvm.Cond.fieldLink "PloughWills$Walk" (29 : Nat) "PloughWills$Walk" "goodsAhead" "[I") ∈ lw_all := lw_g (lw_at lw_m1 190 rfl) rfl
theorem q267 : (Jvm.Cond.fieldLink "PloughWills$Walk" (32 : Nat) "PloughWills$Walk" "ploughsAhead" "[I") ∈ lw_all := lw_g (lw_at lw_m1 192 rfl) rfl
theorem q269 : (Jvm.Cond.fieldLink "PloughWills$Walk" (39 : Nat) "PloughWills$Walk" "stop" "I") ∈ lw_all := lw_g (lw_at lw_m1 194 rfl) rfl
theorem q270 : (Jvm.Cond.lays "PloughWills$Walk" "PloughWills$Walk" "will" "LPloughWills$Will;") ∈ lw_all := lw_g (lw_at lw_m1 195 rfl) rfl
theorem q271 : (Jvm.Cond.soleField "PloughWills$Walk" "will") ∈ lw_all := lw_g (lw_at lw_m1 196 rfl) rfl
theorem q272 : (Jvm.Cond.laysFinal "PloughWills$Walk" "PloughWills$Walk" "field" "LPloughWills$Field;") ∈ lw_all := lw_g (lw_at lw_m1 197 rfl) rfl
theorem q273 : (Jvm.Cond.soleField "PloughWills$Walk" "field") ∈ lw_all := lw_g (lw_at lw_m1 198 rfl) rfl
theorem q274 : (Jvm.Cond.laysFinal "PloughWills$Walk" "PloughWills$Walk" "began" "[LPloughWills$Field;") ∈ lw_all := lw_g (lw_at lw_m1 199 rfl) rfl
theorem q275 : (Jvm.Cond.soleField "PloughWills$Walk" "began") ∈ lw_all := lw_g (lw_at lw_m1 200 rfl) rfl
theorem q276 : (Jvm.Cond.laysFinal "PloughWills$Walk" "PloughWills$Walk" "behind" "[LPloughWills$Field;") ∈ lw_all := lw_g (lw_at lw_m1 201 rfl) rfl
theorem q277 : (Jvm.Cond.soleField "PloughWills$Walk" "behind") ∈ lw_all := lw_g (lw_at lw_m1 202 rfl) rfl
theorem q278 : (Jvm.Cond.laysFinal "PloughWills$Walk" "PloughWills$Walk" "ends" "[I") ∈ lw_all := lw_g (lw_at lw_m1 203 rfl) rfl
theorem q279 : (Jvm.Cond.soleField "PloughWills$Walk" "ends") ∈ lw_all := lw_g (lw_at lw_m1 204 rfl) rfl
theorem q280 : (Jvm.Cond.lays "PloughWills$Walk" "PloughWills$Walk" "depth" "I") ∈ lw_all := lw_g (lw_at lw_m1 205 rfl) rfl
theorem q281 : (Jvm.Cond.soleField "PloughWills$Walk" "depth") ∈ lw_all := lw_g (lw_at lw_m1 206 rfl) rfl
theorem q282 : (Jvm.Cond.lays "PloughWills$Walk" "PloughWills$Walk" "reason" "I") ∈ lw_all := lw_g (lw_at lw_m1 207 rfl) rfl
theorem q283 : (Jvm.Cond.soleField "PloughWills$Walk" "reason") ∈ lw_all := lw_g (lw_at lw_m1 208 rfl) rfl
theorem q284 : (Jvm.Cond.lays "PloughWills$Walk" "PloughWills$Walk" "place" "I") ∈ lw_all := lw_g (lw_at lw_m1 209 rfl) rfl
theorem q285 : (Jvm.Cond.soleField "PloughWills$Walk" "place") ∈ lw_all := lw_g (lw_at lw_m1 210 rfl) rfl
theorem q286 : (Jvm.Cond.lays "PloughWills$Walk" "PloughWills$Walk" "detail" "I") ∈ lw_all := lw_g (lw_at lw_m1 211 rfl) rfl
theorem q287 : (Jvm.Cond.soleField "PloughWills$Walk" "detail") ∈ lw_all := lw_g (lw_at lw_m1 212 rfl) rfl
theorem q288 : (Jvm.Cond.lays "PloughWills$Walk" "PloughWills$Walk" "goodsAhead" "[I") ∈ lw_all := lw_g (lw_at lw_m1 213 rfl) rfl
theorem q289 : (Jvm.Cond.soleField "PloughWills$Walk" "goodsAhead") ∈ lw_all := lw_g (lw_at lw_m1 214 rfl) rfl
theorem q290 : (Jvm.Cond.lays "PloughWills$Walk" "PloughWills$Walk" "ploughsAhead" "[I") ∈ lw_all := lw_g (lw_at lw_m1 215 rfl) rfl
theorem q291 : (Jvm.Cond.soleField "PloughWills$Walk" "ploughsAhead") ∈ lw_all := lw_g (lw_at lw_m1 216 rfl) rfl
theorem q292 : (Jvm.Cond.lays "PloughWills$Walk" "PloughWills$Walk" "stop" "I") ∈ lw_all := lw_g (lw_at lw_m1 217 rfl) rfl
theorem q293 : (Jvm.Cond.soleField "PloughWills$Walk" "stop") ∈ lw_all := lw_g (lw_at lw_m1 218 rfl) rfl
theorem q294 : (Jvm.Cond.superclass "PloughWills$Walk" "java/lang/Object") ∈ lw_all := lw_g (lw_at lw_m1 219 rfl) rfl
theorem q302 : (Jvm.Cond.fieldLinkNest "PloughWills$Walk" (147 : Nat) "PloughWills$Path" "goesBy" "[Z" "PloughWills") ∈ lw_tbl := lw_at lw_m1 227 rfl
theorem q305 : (Jvm.Cond.fieldLinkNest "PloughWills$Walk" (152 : Nat) "PloughWills$Path" "isFirst" "[Z" "PloughWills") ∈ lw_tbl := lw_at lw_m1 230 rfl
theorem q514 : (Jvm.Cond.selects "PloughWills$Walk" ({ cls := "java/lang/Object", name := "getClass", desc := "()Ljava/lang/Class;" } : Jvm.MethodName) ({ cls := "java/lang/Object", name := "getClass", desc := "()Ljava/lang/Class;" } : Jvm.MethodName)) ∈ lw_all := lw_g (lw_at lw_m2 199 rfl) rfl
theorem q632 : (Jvm.Cond.instanceMethod ({ cls := "PloughWills$Walk", name := "along", desc := "(LPloughWills$Will;LPloughWills$Path;)V" } : Jvm.MethodName)) ∈ lw_all := lw_g (lw_at lw_m3 77 rfl) rfl
theorem q633 : (Jvm.Cond.selects "PloughWills$Walk" ({ cls := "PloughWills$Walk", name := "along", desc := "(LPloughWills$Will;LPloughWills$Path;)V" } : Jvm.MethodName) ({ cls := "PloughWills$Walk", name := "along", desc := "(LPloughWills$Will;LPloughWills$Path;)V" } : Jvm.MethodName)) ∈ lw_all := lw_g (lw_at lw_m3 78 rfl) rfl
theorem q634 : (Jvm.Cond.code ({ cls := "PloughWills$Walk", name := "along", desc := "(LPloughWills$Will;LPloughWills$Path;)V" } : Jvm.MethodName) prog_12_method_14_code (4 : Nat) (Option.none : Option Jvm.ClassFile.FieldType)) ∈ lw_all := lw_g (lw_at lw_m3 79 rfl) rfl
theorem q635 : (Jvm.Cond.methodLink "PloughWills$Walk" (134 : Nat) ({ cls := "PloughWills$Walk", name := "begins", desc := "(LPloughWills$Will;I)V" } : Jvm.MethodName)) ∈ lw_all := lw_g (lw_at lw_m3 80 rfl) rfl
theorem q636 : (Jvm.Cond.privateMethod ({ cls := "PloughWills$Walk", name := "begins", desc := "(LPloughWills$Will;I)V" } : Jvm.MethodName)) ∈ lw_tbl := lw_at lw_m3 81 rfl
theorem q637 : (Jvm.Cond.instanceMethod ({ cls := "PloughWills$Walk", name := "begins", desc := "(LPloughWills$Will;I)V" } : Jvm.MethodName)) ∈ lw_all := lw_g (lw_at lw_m3 82 rfl) rfl
theorem q638 : (Jvm.Cond.code ({ cls := "PloughWills$Walk", name := "begins", desc := "(LPloughWills$Will;I)V" } : Jvm.MethodName) prog_12_method_2_code (3 : Nat) (Option.none : Option Jvm.ClassFile.FieldType)) ∈ lw_all := lw_g (lw_at lw_m3 83 rfl) rfl
theorem q639 : (Jvm.Cond.methodLink "PloughWills$Walk" (43 : Nat) ({ cls := "PloughWills$Field", name := "begins", desc := "()V" } : Jvm.MethodName)) ∈ lw_all := lw_g (lw_at lw_m3 84 rfl) rfl
theorem q643 : (Jvm.Cond.methodLink "PloughWills$Walk" (143 : Nat) ({ cls := "PloughWills$Walk", name := "goes", desc := "(IZZ)V" } : Jvm.MethodName)) ∈ lw_all := lw_g (lw_at lw_m3 88 rfl) rfl
theorem q644 : (Jvm.Cond.privateMethod ({ cls := "PloughWills$Walk", name := "goes", desc := "(IZZ)V" } : Jvm.MethodName)) ∈ lw_tbl := lw_at lw_m3 89 rfl
theorem q645 : (Jvm.Cond.instanceMethod ({ cls := "PloughWills$Walk", name := "goes", desc := "(IZZ)V" } : Jvm.MethodName)) ∈ lw_all := lw_g (lw_at lw_m3 90 rfl) rfl
theorem q646 : (Jvm.Cond.code ({ cls := "PloughWills$Walk", name := "goes", desc := "(IZZ)V" } : Jvm.MethodName) prog_12_method_11_code (5 : Nat) (Option.none : Option Jvm.ClassFile.FieldType)) ∈ lw_all := lw_g (lw_at lw_m3 91 rfl) rfl
theorem q647 : (Jvm.Cond.methodLink "PloughWills$Walk" (97 : Nat) ({ cls := "PloughWills$Walk", name := "enters", desc := "(I)V" } : Jvm.MethodName)) ∈ lw_all := lw_g (lw_at lw_m3 92 rfl) rfl
theorem q648 : (Jvm.Cond.privateMethod ({ cls := "PloughWills$Walk", name := "enters", desc := "(I)V" } : Jvm.MethodName)) ∈ lw_tbl := lw_at lw_m3 93 rfl
theorem q649 : (Jvm.Cond.instanceMethod ({ cls := "PloughWills$Walk", name := "enters", desc := "(I)V" } : Jvm.MethodName)) ∈ lw_all := lw_g (lw_at lw_m3 94 rfl) rfl
theorem q650 : (Jvm.Cond.code ({ cls := "PloughWills$Walk", name := "enters", desc := "(I)V" } : Jvm.MethodName) prog_12_method_4_code (2 : Nat) (Option.none : Option Jvm.ClassFile.FieldType)) ∈ lw_all := lw_g (lw_at lw_m3 95 rfl) rfl
theorem q651 : (Jvm.Cond.methodLink "PloughWills$Walk" (101 : Nat) ({ cls := "PloughWills$Walk", name := "isNot", desc := "(I)Z" } : Jvm.MethodName)) ∈ lw_all := lw_g (lw_at lw_m3 96 rfl) rfl
theorem q652 : (Jvm.Cond.privateMethod ({ cls := "PloughWills$Walk", name := "isNot", desc := "(I)Z" } : Jvm.MethodName)) ∈ lw_tbl := lw_at lw_m3 97 rfl
theorem q653 : (Jvm.Cond.instanceMethod ({ cls := "PloughWills$Walk", name := "isNot", desc := "(I)Z" } : Jvm.MethodName)) ∈ lw_all := lw_g (lw_at lw_m3 98 rfl) rfl
theorem q654 : (Jvm.Cond.code ({ cls := "PloughWills$Walk", name := "isNot", desc := "(I)Z" } : Jvm.MethodName) prog_12_method_6_code (2 : Nat) (Option.some Jvm.ClassFile.FieldType.boolean)) ∈ lw_all := lw_g (lw_at lw_m3 99 rfl) rfl
theorem q655 : (Jvm.Cond.methodLink "PloughWills$Walk" (73 : Nat) ({ cls := "PloughWills$Walk", name := "wrongFor", desc := "(ZII)Z" } : Jvm.MethodName)) ∈ lw_all := lw_g (lw_at lw_m3 100 rfl) rfl
theorem q656 : (Jvm.Cond.privateMethod ({ cls := "PloughWills$Walk", name := "wrongFor", desc := "(ZII)Z" } : Jvm.MethodName)) ∈ lw_tbl := lw_at lw_m3 101 rfl
theorem q657 : (Jvm.Cond.instanceMethod ({ cls := "PloughWills$Walk", name := "wrongFor", desc := "(ZII)Z" } : Jvm.MethodName)) ∈ lw_all := lw_g (lw_at lw_m3 102 rfl) rfl
theorem q658 : (Jvm.Cond.code ({ cls := "PloughWills$Walk", name := "wrongFor", desc := "(ZII)Z" } : Jvm.MethodName) prog_12_method_3_code (4 : Nat) (Option.some Jvm.ClassFile.FieldType.boolean)) ∈ lw_all := lw_g (lw_at lw_m3 103 rfl) rfl
theorem q659 : (Jvm.Cond.methodLink "PloughWills$Walk" (105 : Nat) ({ cls := "PloughWills$Walk", name := "leaves", desc := "()Z" } : Jvm.MethodName)) ∈ lw_all := lw_g (lw_at lw_m3 104 rfl) rfl
theorem q660 : (Jvm.Cond.privateMethod ({ cls := "PloughWills$Walk", name := "leaves", desc := "()Z" } : Jvm.MethodName)) ∈ lw_tbl := lw_at lw_m3 105 rfl
theorem q661 : (Jvm.Cond.instanceMethod ({ cls := "PloughWills$Walk", name := "leaves", desc := "()Z" } : Jvm.MethodName)) ∈ lw_all := lw_g (lw_at lw_m3 106 rfl) rfl
theorem q662 : (Jvm.Cond.code ({ cls := "PloughWills$Walk", name := "leaves", desc := "()Z" } : Jvm.MethodName) prog_12_method_5_code (3 : Nat) (Option.some Jvm.ClassFile.FieldType.boolean)) ∈ lw_all := lw_g (lw_at lw_m3 107 rfl) rfl
theorem q663 : (Jvm.Cond.methodLink "PloughWills$Walk" (69 : Nat) ({ cls := "PloughWills$Will", name := "kind", desc := "(I)I" } : Jvm.MethodName)) ∈ lw_all := lw_g (lw_at lw_m3 108 rfl) rfl
theorem q667 : (Jvm.Cond.methodLink "PloughWills$Walk" (109 : Nat) ({ cls := "PloughWills$Walk", name := "brings", desc := "(I)V" } : Jvm.MethodName)) ∈ lw_all := lw_g (lw_at lw_m3 112 rfl) rfl
theorem q668 : (Jvm.Cond.privateMethod ({ cls := "PloughWills$Walk", name := "brings", desc := "(I)V" } : Jvm.MethodName)) ∈ lw_tbl := lw_at lw_m3 113 rfl
theorem q669 : (Jvm.Cond.instanceMethod ({ cls := "PloughWills$Walk", name := "brings", desc := "(I)V" } : Jvm.MethodName)) ∈ lw_all := lw_g (lw_at lw_m3 114 rfl) rfl
theorem q670 : (Jvm.Cond.code ({ cls := "PloughWills$Walk", name := "brings", desc := "(I)V" } : Jvm.MethodName) prog_12_method_7_code (2 : Nat) (Option.none : Option Jvm.ClassFile.FieldType)) ∈ lw_all := lw_g (lw_at lw_m3 115 rfl) rfl
theorem q671 : (Jvm.Cond.methodLink "PloughWills$Walk" (112 : Nat) ({ cls := "PloughWills$Walk", name := "gives", desc := "(I)V" } : Jvm.MethodName)) ∈ lw_all := lw_g (lw_at lw_m3 116 rfl) rfl
theorem q672 : (Jvm.Cond.privateMethod ({ cls := "PloughWills$Walk", name := "gives", desc := "(I)V" } : Jvm.MethodName)) ∈ lw_tbl := lw_at lw_m3 117 rfl
theorem q673 : (Jvm.Cond.instanceMethod ({ cls := "PloughWills$Walk", name := "gives", desc := "(I)V" } : Jvm.MethodName)) ∈ lw_all := lw_g (lw_at lw_m3 118 rfl) rfl
theorem q674 : (Jvm.Cond.code ({ cls := "PloughWills$Walk", name := "gives", desc := "(I)V" } : Jvm.MethodName) prog_12_method_8_code (2 : Nat) (Option.none : Option Jvm.ClassFile.FieldType)) ∈ lw_all := lw_g (lw_at lw_m3 119 rfl) rfl
theorem q675 : (Jvm.Cond.methodLink "PloughWills$Walk" (83 : Nat) ({ cls := "PloughWills$Field", name := "isUnder", desc := "(IZ)Z" } : Jvm.MethodName)) ∈ lw_all := lw_g (lw_at lw_m3 120 rfl) rfl
theorem q679 : (Jvm.Cond.methodLink "PloughWills$Walk" (118 : Nat) ({ cls := "PloughWills$Walk", name := "puts", desc := "(IIZ)V" } : Jvm.MethodName)) ∈ lw_all := lw_g (lw_at lw_m3 124 rfl) rfl
theorem q680 : (Jvm.Cond.privateMethod ({ cls := "PloughWills$Walk", name := "puts", desc := "(IIZ)V" } : Jvm.MethodName)) ∈ lw_tbl := lw_at lw_m3 125 rfl
theorem q681 : (Jvm.Cond.instanceMethod ({ cls := "PloughWills$Walk", name := "puts", desc := "(IIZ)V" } : Jvm.MethodName)) ∈ lw_all := lw_g (lw_at lw_m3 126 rfl) rfl
theorem q682 : (Jvm.Cond.code ({ cls := "PloughWills$Walk", name := "puts", desc := "(IIZ)V" } : Jvm.MethodName) prog_12_method_9_code (4 : Nat) (Option.none : Option Jvm.ClassFile.FieldType)) ∈ lw_all := lw_g (lw_at lw_m3 127 rfl) rfl
theorem q683 : (Jvm.Cond.methodLink "PloughWills$Walk" (122 : Nat) ({ cls := "PloughWills$Field", name := "take", desc := "(LPloughWills$Field;)V" } : Jvm.MethodName)) ∈ lw_all := lw_g (lw_at lw_m3 128 rfl) rfl
theorem q688 : (Jvm.Cond.methodLink "PloughWills$Walk" (126 : Nat) ({ cls := "PloughWills$Walk", name := "joins", desc := "(LPloughWills$Field;)V" } : Jvm.MethodName)) ∈ lw_all := lw_g (lw_at lw_m3 133 rfl) rfl
theorem q689 : (Jvm.Cond.privateMethod ({ cls := "PloughWills$Walk", name := "joins", desc := "(LPloughWills$Field;)V" } : Jvm.MethodName)) ∈ lw_tbl := lw_at lw_m3 134 rfl
theorem q690 : (Jvm.Cond.instanceMethod ({ cls := "PloughWills$Walk", name := "joins", desc := "(LPloughWills$Field;)V" } : Jvm.MethodName)) ∈ lw_all := lw_g (lw_at lw_m3 135 rfl) rfl
theorem q691 : (Jvm.Cond.code ({ cls := "PloughWills$Walk", name := "joins", desc := "(LPloughWills$Field;)V" } : Jvm.MethodName) prog_12_method_10_code (4 : Nat) (Option.none : Option Jvm.ClassFile.FieldType)) ∈ lw_all := lw_g (lw_at lw_m3 136 rfl) rfl
theorem q693 : (Jvm.Cond.instanceMethod ({ cls := "PloughWills$Walk", name := "through", desc := "(LPloughWills$Will;I)V" } : Jvm.MethodName)) ∈ lw_all := lw_g (lw_at lw_m3 138 rfl) rfl
theorem q694 : (Jvm.Cond.selects "PloughWills$Walk" ({ cls := "PloughWills$Walk", name := "through", desc := "(LPloughWills$Will;I)V" } : Jvm.MethodName) ({ cls := "PloughWills$Walk", name := "through", desc := "(LPloughWills$Will;I)V" } : Jvm.MethodName)) ∈ lw_all := lw_g (lw_at lw_m3 139 rfl) rfl
theorem q695 : (Jvm.Cond.code ({ cls := "PloughWills$Walk", name := "through", desc := "(LPloughWills$Will;I)V" } : Jvm.MethodName) prog_12_method_13_code (4 : Nat) (Option.none : Option Jvm.ClassFile.FieldType)) ∈ lw_all := lw_g (lw_at lw_m3 140 rfl) rfl
theorem q696 : (Jvm.Cond.methodLink "PloughWills$Walk" (140 : Nat) ({ cls := "PloughWills$Walk", name := "ahead", desc := "(I)V" } : Jvm.MethodName)) ∈ lw_all := lw_g (lw_at lw_m3 141 rfl) rfl
theorem q697 : (Jvm.Cond.privateMethod ({ cls := "PloughWills$Walk", name := "ahead", desc := "(I)V" } : Jvm.MethodName)) ∈ lw_tbl := lw_at lw_m3 142 rfl
theorem q698 : (Jvm.Cond.instanceMethod ({ cls := "PloughWills$Walk", name := "ahead", desc := "(I)V" } : Jvm.MethodName)) ∈ lw_all := lw_g (lw_at lw_m3 143 rfl) rfl
theorem q699 : (Jvm.Cond.code ({ cls := "PloughWills$Walk", name := "ahead", desc := "(I)V" } : Jvm.MethodName) prog_12_method_12_code (2 : Nat) (Option.none : Option Jvm.ClassFile.FieldType)) ∈ lw_all := lw_g (lw_at lw_m3 144 rfl) rfl
theorem q700 : (Jvm.Cond.methodLink "PloughWills$Walk" (129 : Nat) ({ cls := "[I", name := "clone", desc := "()Ljava/lang/Object;" } : Jvm.MethodName)) ∈ lw_all := lw_g (lw_at lw_m3 145 rfl) rfl
theorem q706 : (Jvm.Cond.classLink "PloughWills$Walk" (130 : Nat) "[I") ∈ lw_all := lw_g (lw_at lw_m3 151 rfl) rfl
theorem q2179 : (Jvm.Cond.castable "PloughWills$Walk" "java/lang/Object") ∈ lw_tbl := lw_at lw_m9 184 rfl
theorem in_X3 : ∀ w ∈ wsX30, w ∈ lw_all := lw_in wsX30 [270, 272, 274, 276, 278, 280, 282, 284, 286, 288, 290, 292] (by decide +kernel) (by decide +kernel)
/-! PloughWills$Field -/
set_option maxRecDepth 100000
def RX4 : String := "PloughWills$Field"
def TX4 : u_T := fun k => match k with
  | 0 => ("PloughWills$Field", "goods", "[I", true)
  | 1 => ("PloughWills$Field", "depths", "[I", true)
  | 2 => ("PloughWills$Field", "on", "[I", true)
  | 3 => ("PloughWills$Field", "since", "[I", true)
  | _ => ("PloughWills$Field", "isWork", "[Z", true)
def tyX4 : Nat → FieldType := fun k => match k with
  | 0 => .array .int
  | 1 => .array .int
  | 2 => .array .int
  | 3 => .array .int
  | _ => .array .boolean
abbrev wsX40 : List Cond := u_ws RX4 TX4 5
theorem nmX4 : ∀ a, a < 5 → ∀ b, b < 5 → a ≠ b → (TX4 a).2.1 ≠ (TX4 b).2.1 := by decide +kernel
theorem tyX4_ok : ∀ k, k < 5 → parseFieldDescriptor (TX4 k).2.2.1 = some (tyX4 k) := by decide +kernel
abbrev cX4_init : ByteArray := prog_4_method_1_code
def yX4_init : MethodName := ⟨RX4, "<init>", "()V"⟩
def dkwX4_init_1 : List UInt8 := [181, 0, 18, 42, 8, 188, 10, 181, 0, 21, 42, 8, 188, 4, 181, 0, 24, 177]
abbrev dktX4_init_1 : List UInt8 := dkwX4_init_1 ++ []
def dkwX4_init_0 : List UInt8 := [42, 183, 0, 3, 42, 16, 8, 188, 10, 181, 0, 9, 42, 16, 8, 188, 10, 181, 0, 15, 42, 8, 188, 10]
abbrev dktX4_init_0 : List UInt8 := dkwX4_init_0 ++ dktX4_init_1
theorem dksX4_init_0 : cX4_init.data.toList.drop 0 = dktX4_init_0 := by decide +kernel
theorem dksX4_init_1 : cX4_init.data.toList.drop 24 = dktX4_init_1 := dk_seg dksX4_init_0 24 rfl rfl
theorem dX4_init_0 : decode cX4_init 0 = .ok (.aload_n 0, 1) := dk_42 (dk_at dksX4_init_0 0 rfl rfl)
theorem dX4_init_1 : decode cX4_init 1 = .ok (.invokespecial 3, 3) := dk_183 0 3 (dk_at dksX4_init_0 1 rfl rfl)
theorem dX4_init_4 : decode cX4_init 4 = .ok (.aload_n 0, 1) := dk_42 (dk_at dksX4_init_0 4 rfl rfl)
theorem dX4_init_5 : decode cX4_init 5 = .ok (.bipush 8, 2) := dk_16 8 (dk_at dksX4_init_0 5 rfl rfl)
theorem dX4_init_7 : decode cX4_init 7 = .ok (.newarray .int, 2) := dk_188_10 (dk_at dksX4_init_0 7 rfl rfl)
theorem dX4_init_9 : decode cX4_init 9 = .ok (.putfield 9, 3) := dk_181 0 9 (dk_at dksX4_init_0 9 rfl rfl)
theorem dX4_init_12 : decode cX4_init 12 = .ok (.aload_n 0, 1) := dk_42 (dk_at dksX4_init_0 12 rfl rfl)
theorem dX4_init_13 : decode cX4_init 13 = .ok (.bipush 8, 2) := dk_16 8 (dk_at dksX4_init_0 13 rfl rfl)
theorem dX4_init_15 : decode cX4_init 15 = .ok (.newarray .int, 2) := dk_188_10 (dk_at dksX4_init_0 15 rfl rfl)
theorem dX4_init_17 : decode cX4_init 17 = .ok (.putfield 15, 3) := dk_181 0 15 (dk_at dksX4_init_0 17 rfl rfl)
theorem dX4_init_20 : decode cX4_init 20 = .ok (.aload_n 0, 1) := dk_42 (dk_at dksX4_init_0 20 rfl rfl)
theorem dX4_init_21 : decode cX4_init 21 = .ok (.iconst 5, 1) := dk_8 (dk_at dksX4_init_0 21 rfl rfl)
theorem dX4_init_22 : decode cX4_init 22 = .ok (.newarray .int, 2) := dk_188_10 (dk_at dksX4_init_0 22 rfl rfl)
theorem dX4_init_24 : decode cX4_init 24 = .ok (.putfield 18, 3) := dk_181 0 18 (dk_at dksX4_init_1 0 rfl rfl)
theorem dX4_init_27 : decode cX4_init 27 = .ok (.aload_n 0, 1) := dk_42 (dk_at dksX4_init_1 3 rfl rfl)
theorem dX4_init_28 : decode cX4_init 28 = .ok (.iconst 5, 1) := dk_8 (dk_at dksX4_init_1 4 rfl rfl)
theorem dX4_init_29 : decode cX4_init 29 = .ok (.newarray .int, 2) := dk_188_10 (dk_at dksX4_init_1 5 rfl rfl)
theorem dX4_init_31 : decode cX4_init 31 = .ok (.putfield 21, 3) := dk_181 0 21 (dk_at dksX4_init_1 7 rfl rfl)
theorem dX4_init_34 : decode cX4_init 34 = .ok (.aload_n 0, 1) := dk_42 (dk_at dksX4_init_1 10 rfl rfl)
theorem dX4_init_35 : decode cX4_init 35 = .ok (.iconst 5, 1) := dk_8 (dk_at dksX4_init_1 11 rfl rfl)
theorem dX4_init_36 : decode cX4_init 36 = .ok (.newarray .boolean, 2) := dk_188_4 (dk_at dksX4_init_1 12 rfl rfl)
theorem dX4_init_38 : decode cX4_init 38 = .ok (.putfield 24, 3) := dk_181 0 24 (dk_at dksX4_init_1 14 rfl rfl)
theorem dX4_init_41 : decode cX4_init 41 = .ok (.return_, 1) := dk_177 (dk_at dksX4_init_1 17 rfl rfl)
abbrev cX4_begins : ByteArray := prog_4_method_2_code
def yX4_begins : MethodName := ⟨RX4, "begins", "()V"⟩
def dkwX4_begins_2 : List UInt8 := [27, 3, 79, 42, 180, 0, 24, 27, 3, 84, 132, 1, 1, 167, 255, 227, 177]
abbrev dktX4_begins_2 : List UInt8 := dkwX4_begins_2 ++ []
def dkwX4_begins_1 : List UInt8 := [132, 1, 1, 167, 255, 233, 3, 60, 27, 8, 162, 0, 30, 42, 180, 0, 18, 27, 2, 79, 42, 180, 0, 21]
abbrev dktX4_begins_1 : List UInt8 := dkwX4_begins_1 ++ dktX4_begins_2
def dkwX4_begins_0 : List UInt8 := [3, 60, 27, 16, 8, 162, 0, 23, 42, 180, 0, 9, 27, 3, 79, 42, 180, 0, 15, 27, 3, 79]
abbrev dktX4_begins_0 : List UInt8 := dkwX4_begins_0 ++ dktX4_begins_1
theorem dksX4_begins_0 : cX4_begins.data.toList.drop 0 = dktX4_begins_0 := by decide +kernel
theorem dksX4_begins_1 : cX4_begins.data.toList.drop 22 = dktX4_begins_1 := dk_seg dksX4_begins_0 22 rfl rfl
theorem dksX4_begins_2 : cX4_begins.data.toList.drop 46 = dktX4_begins_2 := dk_seg dksX4_begins_1 24 rfl rfl
theorem dX4_begins_0 : decode cX4_begins 0 = .ok (.iconst 0, 1) := dk_3 (dk_at dksX4_begins_0 0 rfl rfl)
theorem dX4_begins_1 : decode cX4_begins 1 = .ok (.istore_n 1, 1) := dk_60 (dk_at dksX4_begins_0 1 rfl rfl)
theorem dX4_begins_2 : decode cX4_begins 2 = .ok (.iload_n 1, 1) := dk_27 (dk_at dksX4_begins_0 2 rfl rfl)
theorem dX4_begins_3 : decode cX4_begins 3 = .ok (.bipush 8, 2) := dk_16 8 (dk_at dksX4_begins_0 3 rfl rfl)
theorem dX4_begins_5 : decode cX4_begins 5 = .ok (.if_icmp .ge 23, 3) := dk_162 0 23 (dk_at dksX4_begins_0 5 rfl rfl)
theorem dX4_begins_8 : decode cX4_begins 8 = .ok (.aload_n 0, 1) := dk_42 (dk_at dksX4_begins_0 8 rfl rfl)
theorem dX4_begins_9 : decode cX4_begins 9 = .ok (.getfield 9, 3) := dk_180 0 9 (dk_at dksX4_begins_0 9 rfl rfl)
theorem dX4_begins_12 : decode cX4_begins 12 = .ok (.iload_n 1, 1) := dk_27 (dk_at dksX4_begins_0 12 rfl rfl)
theorem dX4_begins_13 : decode cX4_begins 13 = .ok (.iconst 0, 1) := dk_3 (dk_at dksX4_begins_0 13 rfl rfl)
theorem dX4_begins_14 : decode cX4_begins 14 = .ok (.iastore, 1) := dk_79 (dk_at dksX4_begins_0 14 rfl rfl)
theorem dX4_begins_15 : decode cX4_begins 15 = .ok (.aload_n 0, 1) := dk_42 (dk_at dksX4_begins_0 15 rfl rfl)
theorem dX4_begins_16 : decode cX4_begins 16 = .ok (.getfield 15, 3) := dk_180 0 15 (dk_at dksX4_begins_0 16 rfl rfl)
theorem dX4_begins_19 : decode cX4_begins 19 = .ok (.iload_n 1, 1) := dk_27 (dk_at dksX4_begins_0 19 rfl rfl)
theorem dX4_begins_20 : decode cX4_begins 20 = .ok (.iconst 0, 1) := dk_3 (dk_at dksX4_begins_0 20 rfl rfl)
theorem dX4_begins_21 : decode cX4_begins 21 = .ok (.iastore, 1) := dk_79 (dk_at dksX4_begins_0 21 rfl rfl)
theorem dX4_begins_22 : decode cX4_begins 22 = .ok (.iinc 1 1, 3) := dk_132 1 1 (dk_at dksX4_begins_1 0 rfl rfl)
theorem dX4_begins_25 : decode cX4_begins 25 = .ok (.goto (-23), 3) := dk_167 255 233 (dk_at dksX4_begins_1 3 rfl rfl)
theorem dX4_begins_28 : decode cX4_begins 28 = .ok (.iconst 0, 1) := dk_3 (dk_at dksX4_begins_1 6 rfl rfl)
theorem dX4_begins_29 : decode cX4_begins 29 = .ok (.istore_n 1, 1) := dk_60 (dk_at dksX4_begins_1 7 rfl rfl)
theorem dX4_begins_30 : decode cX4_begins 30 = .ok (.iload_n 1, 1) := dk_27 (dk_at dksX4_begins_1 8 rfl rfl)
theorem dX4_begins_31 : decode cX4_begins 31 = .ok (.iconst 5, 1) := dk_8 (dk_at dksX4_begins_1 9 rfl rfl)
theorem dX4_begins_32 : decode cX4_begins 32 = .ok (.if_icmp .ge 30, 3) := dk_162 0 30 (dk_at dksX4_begins_1 10 rfl rfl)
theorem dX4_begins_35 : decode cX4_begins 35 = .ok (.aload_n 0, 1) := dk_42 (dk_at dksX4_begins_1 13 rfl rfl)
theorem dX4_begins_36 : decode cX4_begins 36 = .ok (.getfield 18, 3) := dk_180 0 18 (dk_at dksX4_begins_1 14 rfl rfl)
theorem dX4_begins_39 : decode cX4_begins 39 = .ok (.iload_n 1, 1) := dk_27 (dk_at dksX4_begins_1 17 rfl rfl)
theorem dX4_begins_40 : decode cX4_begins 40 = .ok (.iconst (-1), 1) := dk_2 (dk_at dksX4_begins_1 18 rfl rfl)
theorem dX4_begins_41 : decode cX4_begins 41 = .ok (.iastore, 1) := dk_79 (dk_at dksX4_begins_1 19 rfl rfl)
theorem dX4_begins_42 : decode cX4_begins 42 = .ok (.aload_n 0, 1) := dk_42 (dk_at dksX4_begins_1 20 rfl rfl)
theorem dX4_begins_43 : decode cX4_begins 43 = .ok (.getfield 21, 3) := dk_180 0 21 (dk_at dksX4_begins_1 21 rfl rfl)
theorem dX4_begins_46 : decode cX4_begins 46 = .ok (.iload_n 1, 1) := dk_27 (dk_at dksX4_begins_2 0 rfl rfl)
theorem dX4_begins_47 : decode cX4_begins 47 = .ok (.iconst 0, 1) := dk_3 (dk_at dksX4_begins_2 1 rfl rfl)
theorem dX4_begins_48 : decode cX4_begins 48 = .ok (.iastore, 1) := dk_79 (dk_at dksX4_begins_2 2 rfl rfl)
theorem dX4_begins_49 : decode cX4_begins 49 = .ok (.aload_n 0, 1) := dk_42 (dk_at dksX4_begins_2 3 rfl rfl)
theorem dX4_begins_50 : decode cX4_begins 50 = .ok (.getfield 24, 3) := dk_180 0 24 (dk_at dksX4_begins_2 4 rfl rfl)
theorem dX4_begins_53 : decode cX4_begins 53 = .ok (.iload_n 1, 1) := dk_27 (dk_at dksX4_begins_2 7 rfl rfl)
theorem dX4_begins_54 : decode cX4_begins 54 = .ok (.iconst 0, 1) := dk_3 (dk_at dksX4_begins_2 8 rfl rfl)
theorem dX4_begins_55 : decode cX4_begins 55 = .ok (.bastore, 1) := dk_84 (dk_at dksX4_begins_2 9 rfl rfl)
theorem dX4_begins_56 : decode cX4_begins 56 = .ok (.iinc 1 1, 3) := dk_132 1 1 (dk_at dksX4_begins_2 10 rfl rfl)
theorem dX4_begins_59 : decode cX4_begins 59 = .ok (.goto (-29), 3) := dk_167 255 227 (dk_at dksX4_begins_2 13 rfl rfl)
theorem dX4_begins_62 : decode cX4_begins 62 = .ok (.return_, 1) := dk_177 (dk_at dksX4_begins_2 16 rfl rfl)
abbrev cX4_isUnder : ByteArray := prog_4_method_4_code
def yX4_isUnder : MethodName := ⟨RX4, "isUnder", "(IZ)Z"⟩
def dkwX4_isUnder_2 : List UInt8 := [167, 255, 214, 29, 172]
abbrev dktX4_isUnder_2 : List UInt8 := dkwX4_isUnder_2 ++ []
def dkwX4_isUnder_1 : List UInt8 := [153, 0, 13, 42, 180, 0, 24, 21, 4, 51, 153, 0, 7, 4, 167, 0, 4, 3, 128, 62, 132, 4, 1]
abbrev dktX4_isUnder_1 : List UInt8 := dkwX4_isUnder_1 ++ dktX4_isUnder_2
def dkwX4_isUnder_0 : List UInt8 := [3, 62, 3, 54, 4, 21, 4, 8, 162, 0, 42, 29, 42, 180, 0, 18, 21, 4, 46, 27, 160, 0, 21, 28]
abbrev dktX4_isUnder_0 : List UInt8 := dkwX4_isUnder_0 ++ dktX4_isUnder_1
theorem dksX4_isUnder_0 : cX4_isUnder.data.toList.drop 0 = dktX4_isUnder_0 := by decide +kernel
theorem dksX4_isUnder_1 : cX4_isUnder.data.toList.drop 24 = dktX4_isUnder_1 := dk_seg dksX4_isUnder_0 24 rfl rfl
theorem dksX4_isUnder_2 : cX4_isUnder.data.toList.drop 47 = dktX4_isUnder_2 := dk_seg dksX4_isUnder_1 23 rfl rfl
theorem dX4_isUnder_0 : decode cX4_isUnder 0 = .ok (.iconst 0, 1) := dk_3 (dk_at dksX4_isUnder_0 0 rfl rfl)
theorem dX4_isUnder_1 : decode cX4_isUnder 1 = .ok (.istore_n 3, 1) := dk_62 (dk_at dksX4_isUnder_0 1 rfl rfl)
theorem dX4_isUnder_2 : decode cX4_isUnder 2 = .ok (.iconst 0, 1) := dk_3 (dk_at dksX4_isUnder_0 2 rfl rfl)
theorem dX4_isUnder_3 : decode cX4_isUnder 3 = .ok (.istore 4, 2) := dk_54 4 (dk_at dksX4_isUnder_0 3 rfl rfl)
theorem dX4_isUnder_5 : decode cX4_isUnder 5 = .ok (.iload 4, 2) := dk_21 4 (dk_at dksX4_isUnder_0 5 rfl rfl)
theorem dX4_isUnder_7 : decode cX4_isUnder 7 = .ok (.iconst 5, 1) := dk_8 (dk_at dksX4_isUnder_0 7 rfl rfl)
theorem dX4_isUnder_8 : decode cX4_isUnder 8 = .ok (.if_icmp .ge 42, 3) := dk_162 0 42 (dk_at dksX4_isUnder_0 8 rfl rfl)
theorem dX4_isUnder_11 : decode cX4_isUnder 11 = .ok (.iload_n 3, 1) := dk_29 (dk_at dksX4_isUnder_0 11 rfl rfl)
theorem dX4_isUnder_12 : decode cX4_isUnder 12 = .ok (.aload_n 0, 1) := dk_42 (dk_at dksX4_isUnder_0 12 rfl rfl)
theorem dX4_isUnder_13 : decode cX4_isUnder 13 = .ok (.getfield 18, 3) := dk_180 0 18 (dk_at dksX4_isUnder_0 13 rfl rfl)
theorem dX4_isUnder_16 : decode cX4_isUnder 16 = .ok (.iload 4, 2) := dk_21 4 (dk_at dksX4_isUnder_0 16 rfl rfl)
theorem dX4_isUnder_18 : decode cX4_isUnder 18 = .ok (.iaload, 1) := dk_46 (dk_at dksX4_isUnder_0 18 rfl rfl)
theorem dX4_isUnder_19 : decode cX4_isUnder 19 = .ok (.iload_n 1, 1) := dk_27 (dk_at dksX4_isUnder_0 19 rfl rfl)
theorem dX4_isUnder_20 : decode cX4_isUnder 20 = .ok (.if_icmp .ne 21, 3) := dk_160 0 21 (dk_at dksX4_isUnder_0 20 rfl rfl)
theorem dX4_isUnder_23 : decode cX4_isUnder 23 = .ok (.iload_n 2, 1) := dk_28 (dk_at dksX4_isUnder_0 23 rfl rfl)
theorem dX4_isUnder_24 : decode cX4_isUnder 24 = .ok (.ifCond .eq 13, 3) := dk_153 0 13 (dk_at dksX4_isUnder_1 0 rfl rfl)
theorem dX4_isUnder_27 : decode cX4_isUnder 27 = .ok (.aload_n 0, 1) := dk_42 (dk_at dksX4_isUnder_1 3 rfl rfl)
theorem dX4_isUnder_28 : decode cX4_isUnder 28 = .ok (.getfield 24, 3) := dk_180 0 24 (dk_at dksX4_isUnder_1 4 rfl rfl)
theorem dX4_isUnder_31 : decode cX4_isUnder 31 = .ok (.iload 4, 2) := dk_21 4 (dk_at dksX4_isUnder_1 7 rfl rfl)
theorem dX4_isUnder_33 : decode cX4_isUnder 33 = .ok (.baload, 1) := dk_51 (dk_at dksX4_isUnder_1 9 rfl rfl)
theorem dX4_isUnder_34 : decode cX4_isUnder 34 = .ok (.ifCond .eq 7, 3) := dk_153 0 7 (dk_at dksX4_isUnder_1 10 rfl rfl)
theorem dX4_isUnder_37 : decode cX4_isUnder 37 = .ok (.iconst 1, 1) := dk_4 (dk_at dksX4_isUnder_1 13 rfl rfl)
theorem dX4_isUnder_38 : decode cX4_isUnder 38 = .ok (.goto 4, 3) := dk_167 0 4 (dk_at dksX4_isUnder_1 14 rfl rfl)
theorem dX4_isUnder_41 : decode cX4_isUnder 41 = .ok (.iconst 0, 1) := dk_3 (dk_at dksX4_isUnder_1 17 rfl rfl)
theorem dX4_isUnder_42 : decode cX4_isUnder 42 = .ok (.ior, 1) := dk_128 (dk_at dksX4_isUnder_1 18 rfl rfl)
theorem dX4_isUnder_43 : decode cX4_isUnder 43 = .ok (.istore_n 3, 1) := dk_62 (dk_at dksX4_isUnder_1 19 rfl rfl)
theorem dX4_isUnder_44 : decode cX4_isUnder 44 = .ok (.iinc 4 1, 3) := dk_132 4 1 (dk_at dksX4_isUnder_1 20 rfl rfl)
theorem dX4_isUnder_47 : decode cX4_isUnder 47 = .ok (.goto (-42), 3) := dk_167 255 214 (dk_at dksX4_isUnder_2 0 rfl rfl)
theorem dX4_isUnder_50 : decode cX4_isUnder 50 = .ok (.iload_n 3, 1) := dk_29 (dk_at dksX4_isUnder_2 3 rfl rfl)
theorem dX4_isUnder_51 : decode cX4_isUnder 51 = .ok (.ireturn, 1) := dk_172 (dk_at dksX4_isUnder_2 4 rfl rfl)
abbrev cX4_take : ByteArray := prog_4_method_3_code
def yX4_take : MethodName := ⟨RX4, "take", "(LPloughWills$Field;)V"⟩
def dkwX4_take_3 : List UInt8 := [177]
abbrev dktX4_take_3 : List UInt8 := dkwX4_take_3 ++ []
def dkwX4_take_2 : List UInt8 := [3, 42, 180, 0, 21, 3, 8, 184, 0, 28, 43, 180, 0, 24, 3, 42, 180, 0, 24, 3, 8, 184, 0, 28]
abbrev dktX4_take_2 : List UInt8 := dkwX4_take_2 ++ dktX4_take_3
def dkwX4_take_1 : List UInt8 := [3, 16, 8, 184, 0, 28, 43, 180, 0, 18, 3, 42, 180, 0, 18, 3, 8, 184, 0, 28, 43, 180, 0, 21]
abbrev dktX4_take_1 : List UInt8 := dkwX4_take_1 ++ dktX4_take_2
def dkwX4_take_0 : List UInt8 := [43, 180, 0, 9, 3, 42, 180, 0, 9, 3, 16, 8, 184, 0, 28, 43, 180, 0, 15, 3, 42, 180, 0, 15]
abbrev dktX4_take_0 : List UInt8 := dkwX4_take_0 ++ dktX4_take_1
theorem dksX4_take_0 : cX4_take.data.toList.drop 0 = dktX4_take_0 := by decide +kernel
theorem dksX4_take_1 : cX4_take.data.toList.drop 24 = dktX4_take_1 := dk_seg dksX4_take_0 24 rfl rfl
theorem dksX4_take_2 : cX4_take.data.toList.drop 48 = dktX4_take_2 := dk_seg dksX4_take_1 24 rfl rfl
theorem dksX4_take_3 : cX4_take.data.toList.drop 72 = dktX4_take_3 := dk_seg dksX4_take_2 24 rfl rfl
theorem dX4_take_0 : decode cX4_take 0 = .ok (.aload_n 1, 1) := dk_43 (dk_at dksX4_take_0 0 rfl rfl)
theorem dX4_take_1 : decode cX4_take 1 = .ok (.getfield 9, 3) := dk_180 0 9 (dk_at dksX4_take_0 1 rfl rfl)
theorem dX4_take_4 : decode cX4_take 4 = .ok (.iconst 0, 1) := dk_3 (dk_at dksX4_take_0 4 rfl rfl)
theorem dX4_take_5 : decode cX4_take 5 = .ok (.aload_n 0, 1) := dk_42 (dk_at dksX4_take_0 5 rfl rfl)
theorem dX4_take_6 : decode cX4_take 6 = .ok (.getfield 9, 3) := dk_180 0 9 (dk_at dksX4_take_0 6 rfl rfl)
theorem dX4_take_9 : decode cX4_take 9 = .ok (.iconst 0, 1) := dk_3 (dk_at dksX4_take_0 9 rfl rfl)
theorem dX4_take_10 : decode cX4_take 10 = .ok (.bipush 8, 2) := dk_16 8 (dk_at dksX4_take_0 10 rfl rfl)
theorem dX4_take_12 : decode cX4_take 12 = .ok (.invokestatic 28, 3) := dk_184 0 28 (dk_at dksX4_take_0 12 rfl rfl)
theorem dX4_take_15 : decode cX4_take 15 = .ok (.aload_n 1, 1) := dk_43 (dk_at dksX4_take_0 15 rfl rfl)
theorem dX4_take_16 : decode cX4_take 16 = .ok (.getfield 15, 3) := dk_180 0 15 (dk_at dksX4_take_0 16 rfl rfl)
theorem dX4_take_19 : decode cX4_take 19 = .ok (.iconst 0, 1) := dk_3 (dk_at dksX4_take_0 19 rfl rfl)
theorem dX4_take_20 : decode cX4_take 20 = .ok (.aload_n 0, 1) := dk_42 (dk_at dksX4_take_0 20 rfl rfl)
theorem dX4_take_21 : decode cX4_take 21 = .ok (.getfield 15, 3) := dk_180 0 15 (dk_at dksX4_take_0 21 rfl rfl)
theorem dX4_take_24 : decode cX4_take 24 = .ok (.iconst 0, 1) := dk_3 (dk_at dksX4_take_1 0 rfl rfl)
theorem dX4_take_25 : decode cX4_take 25 = .ok (.bipush 8, 2) := dk_16 8 (dk_at dksX4_take_1 1 rfl rfl)
theorem dX4_take_27 : decode cX4_take 27 = .ok (.invokestatic 28, 3) := dk_184 0 28 (dk_at dksX4_take_1 3 rfl rfl)
theorem dX4_take_30 : decode cX4_take 30 = .ok (.aload_n 1, 1) := dk_43 (dk_at dksX4_take_1 6 rfl rfl)
theorem dX4_take_31 : decode cX4_take 31 = .ok (.getfield 18, 3) := dk_180 0 18 (dk_at dksX4_take_1 7 rfl rfl)
theorem dX4_take_34 : decode cX4_take 34 = .ok (.iconst 0, 1) := dk_3 (dk_at dksX4_take_1 10 rfl rfl)
theorem dX4_take_35 : decode cX4_take 35 = .ok (.aload_n 0, 1) := dk_42 (dk_at dksX4_take_1 11 rfl rfl)
theorem dX4_take_36 : decode cX4_take 36 = .ok (.getfield 18, 3) := dk_180 0 18 (dk_at dksX4_take_1 12 rfl rfl)
theorem dX4_take_39 : decode cX4_take 39 = .ok (.iconst 0, 1) := dk_3 (dk_at dksX4_take_1 15 rfl rfl)
theorem dX4_take_40 : decode cX4_take 40 = .ok (.iconst 5, 1) := dk_8 (dk_at dksX4_take_1 16 rfl rfl)
theorem dX4_take_41 : decode cX4_take 41 = .ok (.invokestatic 28, 3) := dk_184 0 28 (dk_at dksX4_take_1 17 rfl rfl)
theorem dX4_take_44 : decode cX4_take 44 = .ok (.aload_n 1, 1) := dk_43 (dk_at dksX4_take_1 20 rfl rfl)
theorem dX4_take_45 : decode cX4_take 45 = .ok (.getfield 21, 3) := dk_180 0 21 (dk_at dksX4_take_1 21 rfl rfl)
theorem dX4_take_48 : decode cX4_take 48 = .ok (.iconst 0, 1) := dk_3 (dk_at dksX4_take_2 0 rfl rfl)
theorem dX4_take_49 : decode cX4_take 49 = .ok (.aload_n 0, 1) := dk_42 (dk_at dksX4_take_2 1 rfl rfl)
theorem dX4_take_50 : decode cX4_take 50 = .ok (.getfield 21, 3) := dk_180 0 21 (dk_at dksX4_take_2 2 rfl rfl)
theorem dX4_take_53 : decode cX4_take 53 = .ok (.iconst 0, 1) := dk_3 (dk_at dksX4_take_2 5 rfl rfl)
theorem dX4_take_54 : decode cX4_take 54 = .ok (.iconst 5, 1) := dk_8 (dk_at dksX4_take_2 6 rfl rfl)
theorem dX4_take_55 : decode cX4_take 55 = .ok (.invokestatic 28, 3) := dk_184 0 28 (dk_at dksX4_take_2 7 rfl rfl)
theorem dX4_take_58 : decode cX4_take 58 = .ok (.aload_n 1, 1) := dk_43 (dk_at dksX4_take_2 10 rfl rfl)
theorem dX4_take_59 : decode cX4_take 59 = .ok (.getfield 24, 3) := dk_180 0 24 (dk_at dksX4_take_2 11 rfl rfl)
theorem dX4_take_62 : decode cX4_take 62 = .ok (.iconst 0, 1) := dk_3 (dk_at dksX4_take_2 14 rfl rfl)
theorem dX4_take_63 : decode cX4_take 63 = .ok (.aload_n 0, 1) := dk_42 (dk_at dksX4_take_2 15 rfl rfl)
theorem dX4_take_64 : decode cX4_take 64 = .ok (.getfield 24, 3) := dk_180 0 24 (dk_at dksX4_take_2 16 rfl rfl)
theorem dX4_take_67 : decode cX4_take 67 = .ok (.iconst 0, 1) := dk_3 (dk_at dksX4_take_2 19 rfl rfl)
theorem dX4_take_68 : decode cX4_take 68 = .ok (.iconst 5, 1) := dk_8 (dk_at dksX4_take_2 20 rfl rfl)
theorem dX4_take_69 : decode cX4_take 69 = .ok (.invokestatic 28, 3) := dk_184 0 28 (dk_at dksX4_take_2 21 rfl rfl)
theorem dX4_take_72 : decode cX4_take 72 = .ok (.return_, 1) := dk_177 (dk_at dksX4_take_3 0 rfl rfl)
theorem q81 : (Jvm.Cond.initialized "PloughWills$Field") ∈ lw_all := lw_g (lw_at lw_m1 6 rfl) rfl
theorem q225 : (Jvm.Cond.instantiable "PloughWills$Field" (5 : Nat)) ∈ lw_all := lw_g (lw_at lw_m1 150 rfl) rfl
theorem q227 : (Jvm.Cond.instanceMethod ({ cls := "PloughWills$Field", name := "<init>", desc := "()V" } : Jvm.MethodName)) ∈ lw_all := lw_g (lw_at lw_m1 152 rfl) rfl
theorem q228 : (Jvm.Cond.code ({ cls := "PloughWills$Field", name := "<init>", desc := "()V" } : Jvm.MethodName) prog_4_method_1_code (1 : Nat) (Option.none : Option Jvm.ClassFile.FieldType)) ∈ lw_all := lw_g (lw_at lw_m1 153 rfl) rfl
theorem q229 : (Jvm.Cond.methodLink "PloughWills$Field" (3 : Nat) ({ cls := "java/lang/Object", name := "<init>", desc := "()V" } : Jvm.MethodName)) ∈ lw_all := lw_g (lw_at lw_m1 154 rfl) rfl
theorem q230 : (Jvm.Cond.fieldLink "PloughWills$Field" (9 : Nat) "PloughWills$Field" "goods" "[I") ∈ lw_all := lw_g (lw_at lw_m1 155 rfl) rfl
theorem q232 : (Jvm.Cond.fieldLink "PloughWills$Field" (15 : Nat) "PloughWills$Field" "depths" "[I") ∈ lw_all := lw_g (lw_at lw_m1 157 rfl) rfl
theorem q234 : (Jvm.Cond.fieldLink "PloughWills$Field" (18 : Nat) "PloughWills$Field" "on" "[I") ∈ lw_all := lw_g (lw_at lw_m1 159 rfl) rfl
theorem q236 : (Jvm.Cond.fieldLink "PloughWills$Field" (21 : Nat) "PloughWills$Field" "since" "[I") ∈ lw_all := lw_g (lw_at lw_m1 161 rfl) rfl
theorem q238 : (Jvm.Cond.fieldLink "PloughWills$Field" (24 : Nat) "PloughWills$Field" "isWork" "[Z") ∈ lw_all := lw_g (lw_at lw_m1 163 rfl) rfl
theorem q240 : (Jvm.Cond.laysFinal "PloughWills$Field" "PloughWills$Field" "goods" "[I") ∈ lw_all := lw_g (lw_at lw_m1 165 rfl) rfl
theorem q241 : (Jvm.Cond.soleField "PloughWills$Field" "goods") ∈ lw_all := lw_g (lw_at lw_m1 166 rfl) rfl
theorem q242 : (Jvm.Cond.laysFinal "PloughWills$Field" "PloughWills$Field" "depths" "[I") ∈ lw_all := lw_g (lw_at lw_m1 167 rfl) rfl
theorem q243 : (Jvm.Cond.soleField "PloughWills$Field" "depths") ∈ lw_all := lw_g (lw_at lw_m1 168 rfl) rfl
theorem q244 : (Jvm.Cond.laysFinal "PloughWills$Field" "PloughWills$Field" "on" "[I") ∈ lw_all := lw_g (lw_at lw_m1 169 rfl) rfl
theorem q245 : (Jvm.Cond.soleField "PloughWills$Field" "on") ∈ lw_all := lw_g (lw_at lw_m1 170 rfl) rfl
theorem q246 : (Jvm.Cond.laysFinal "PloughWills$Field" "PloughWills$Field" "since" "[I") ∈ lw_all := lw_g (lw_at lw_m1 171 rfl) rfl
theorem q247 : (Jvm.Cond.soleField "PloughWills$Field" "since") ∈ lw_all := lw_g (lw_at lw_m1 172 rfl) rfl
theorem q248 : (Jvm.Cond.laysFinal "PloughWills$Field" "PloughWills$Field" "isWork" "[Z") ∈ lw_all := lw_g (lw_at lw_m1 173 rfl) rfl
theorem q249 : (Jvm.Cond.soleField "PloughWills$Field" "isWork") ∈ lw_all := lw_g (lw_at lw_m1 174 rfl) rfl
theorem q250 : (Jvm.Cond.superclass "PloughWills$Field" "java/lang/Object") ∈ lw_all := lw_g (lw_at lw_m1 175 rfl) rfl
theorem q507 : (Jvm.Cond.selects "PloughWills$Field" ({ cls := "java/lang/Object", name := "getClass", desc := "()Ljava/lang/Class;" } : Jvm.MethodName) ({ cls := "java/lang/Object", name := "getClass", desc := "()Ljava/lang/Class;" } : Jvm.MethodName)) ∈ lw_all := lw_g (lw_at lw_m2 192 rfl) rfl
theorem q640 : (Jvm.Cond.instanceMethod ({ cls := "PloughWills$Field", name := "begins", desc := "()V" } : Jvm.MethodName)) ∈ lw_all := lw_g (lw_at lw_m3 85 rfl) rfl
theorem q641 : (Jvm.Cond.selects "PloughWills$Field" ({ cls := "PloughWills$Field", name := "begins", desc := "()V" } : Jvm.MethodName) ({ cls := "PloughWills$Field", name := "begins", desc := "()V" } : Jvm.MethodName)) ∈ lw_all := lw_g (lw_at lw_m3 86 rfl) rfl
theorem q642 : (Jvm.Cond.code ({ cls := "PloughWills$Field", name := "begins", desc := "()V" } : Jvm.MethodName) prog_4_method_2_code (2 : Nat) (Option.none : Option Jvm.ClassFile.FieldType)) ∈ lw_all := lw_g (lw_at lw_m3 87 rfl) rfl
theorem q676 : (Jvm.Cond.instanceMethod ({ cls := "PloughWills$Field", name := "isUnder", desc := "(IZ)Z" } : Jvm.MethodName)) ∈ lw_all := lw_g (lw_at lw_m3 121 rfl) rfl
theorem q677 : (Jvm.Cond.selects "PloughWills$Field" ({ cls := "PloughWills$Field", name := "isUnder", desc := "(IZ)Z" } : Jvm.MethodName) ({ cls := "PloughWills$Field", name := "isUnder", desc := "(IZ)Z" } : Jvm.MethodName)) ∈ lw_all := lw_g (lw_at lw_m3 122 rfl) rfl
theorem q678 : (Jvm.Cond.code ({ cls := "PloughWills$Field", name := "isUnder", desc := "(IZ)Z" } : Jvm.MethodName) prog_4_method_4_code (5 : Nat) (Option.some Jvm.ClassFile.FieldType.boolean)) ∈ lw_all := lw_g (lw_at lw_m3 123 rfl) rfl
theorem q684 : (Jvm.Cond.instanceMethod ({ cls := "PloughWills$Field", name := "take", desc := "(LPloughWills$Field;)V" } : Jvm.MethodName)) ∈ lw_all := lw_g (lw_at lw_m3 129 rfl) rfl
theorem q685 : (Jvm.Cond.selects "PloughWills$Field" ({ cls := "PloughWills$Field", name := "take", desc := "(LPloughWills$Field;)V" } : Jvm.MethodName) ({ cls := "PloughWills$Field", name := "take", desc := "(LPloughWills$Field;)V" } : Jvm.MethodName)) ∈ lw_all := lw_g (lw_at lw_m3 130 rfl) rfl
theorem q686 : (Jvm.Cond.code ({ cls := "PloughWills$Field", name := "take", desc := "(LPloughWills$Field;)V" } : Jvm.MethodName) prog_4_method_3_code (2 : Nat) (Option.none : Option Jvm.ClassFile.FieldType)) ∈ lw_all := lw_g (lw_at lw_m3 131 rfl) rfl
theorem q687 : (Jvm.Cond.methodLink "PloughWills$Field" (28 : Nat) ({ cls := "java/lang/System", name := "arraycopy", desc := "(Ljava/lang/Object;ILjava/lang/Object;II)V" } : Jvm.MethodName)) ∈ lw_all := lw_g (lw_at lw_m3 132 rfl) rfl
theorem q2175 : (Jvm.Cond.castable "PloughWills$Field" "java/lang/Object") ∈ lw_tbl := lw_at lw_m9 180 rfl
theorem in_X4 : ∀ w ∈ wsX40, w ∈ lw_all := lw_in wsX40 [240, 242, 244, 246, 248] (by decide +kernel) (by decide +kernel)
/-! PloughWills$Path -/
set_option maxRecDepth 100000
def RX5 : String := "PloughWills$Path"
def TX5 : u_T := fun k => match k with
  | 0 => ("PloughWills$Path", "goesBy", "[Z", true)
  | 1 => ("PloughWills$Path", "isFirst", "[Z", true)
  | 2 => ("PloughWills$Path", "clauses", "I", false)
  | 3 => ("PloughWills$Path", "choices", "I", false)
  | _ => ("PloughWills$Path", "left", "I", false)
def tyX5 : Nat → FieldType := fun k => match k with
  | 0 => .array .boolean
  | 1 => .array .boolean
  | 2 => .int
  | 3 => .int
  | _ => .int
abbrev wsX50 : List Cond := u_ws RX5 TX5 5
theorem nmX5 : ∀ a, a < 5 → ∀ b, b < 5 → a ≠ b → (TX5 a).2.1 ≠ (TX5 b).2.1 := by decide +kernel
theorem tyX5_ok : ∀ k, k < 5 → parseFieldDescriptor (TX5 k).2.2.1 = some (tyX5 k) := by decide +kernel
abbrev cX5_init : ByteArray := prog_9_method_1_code
def yX5_init : MethodName := ⟨RX5, "<init>", "()V"⟩
def dkwX5_init_0 : List UInt8 := [42, 183, 0, 3, 42, 16, 24, 188, 4, 181, 0, 9, 42, 16, 24, 188, 4, 181, 0, 15, 177]
abbrev dktX5_init_0 : List UInt8 := dkwX5_init_0 ++ []
theorem dksX5_init_0 : cX5_init.data.toList.drop 0 = dktX5_init_0 := by decide +kernel
theorem dX5_init_0 : decode cX5_init 0 = .ok (.aload_n 0, 1) := dk_42 (dk_at dksX5_init_0 0 rfl rfl)
theorem dX5_init_1 : decode cX5_init 1 = .ok (.invokespecial 3, 3) := dk_183 0 3 (dk_at dksX5_init_0 1 rfl rfl)
theorem dX5_init_4 : decode cX5_init 4 = .ok (.aload_n 0, 1) := dk_42 (dk_at dksX5_init_0 4 rfl rfl)
theorem dX5_init_5 : decode cX5_init 5 = .ok (.bipush 24, 2) := dk_16 24 (dk_at dksX5_init_0 5 rfl rfl)
theorem dX5_init_7 : decode cX5_init 7 = .ok (.newarray .boolean, 2) := dk_188_4 (dk_at dksX5_init_0 7 rfl rfl)
theorem dX5_init_9 : decode cX5_init 9 = .ok (.putfield 9, 3) := dk_181 0 9 (dk_at dksX5_init_0 9 rfl rfl)
theorem dX5_init_12 : decode cX5_init 12 = .ok (.aload_n 0, 1) := dk_42 (dk_at dksX5_init_0 12 rfl rfl)
theorem dX5_init_13 : decode cX5_init 13 = .ok (.bipush 24, 2) := dk_16 24 (dk_at dksX5_init_0 13 rfl rfl)
theorem dX5_init_15 : decode cX5_init 15 = .ok (.newarray .boolean, 2) := dk_188_4 (dk_at dksX5_init_0 15 rfl rfl)
theorem dX5_init_17 : decode cX5_init 17 = .ok (.putfield 15, 3) := dk_181 0 15 (dk_at dksX5_init_0 17 rfl rfl)
theorem dX5_init_20 : decode cX5_init 20 = .ok (.return_, 1) := dk_177 (dk_at dksX5_init_0 20 rfl rfl)
abbrev cX5_many : ByteArray := prog_9_method_3_code
def yX5_many : MethodName := ⟨RX5, "many", "(LPloughWills$Will;II)I"⟩
def dkwX5_many_3 : List UInt8 := [184, 0, 32, 96, 104, 62, 21, 6, 54, 4, 132, 4, 1, 167, 255, 179, 29, 172]
abbrev dktX5_many_3 : List UInt8 := dkwX5_many_3 ++ []
def dkwX5_many_2 : List UInt8 := [182, 0, 28, 54, 6, 29, 42, 21, 4, 4, 96, 21, 5, 184, 0, 32, 42, 21, 5, 4, 96, 21, 6]
abbrev dktX5_many_2 : List UInt8 := dkwX5_many_2 ++ dktX5_many_3
def dkwX5_many_1 : List UInt8 := [21, 4, 4, 96, 16, 8, 16, 8, 182, 0, 28, 54, 5, 42, 21, 5, 4, 96, 16, 9, 16, 9]
abbrev dktX5_many_1 : List UInt8 := dkwX5_many_1 ++ dktX5_many_2
def dkwX5_many_0 : List UInt8 := [4, 62, 27, 54, 4, 21, 4, 28, 162, 0, 77, 42, 180, 0, 22, 21, 4, 46, 16, 7, 160, 0, 59, 42]
abbrev dktX5_many_0 : List UInt8 := dkwX5_many_0 ++ dktX5_many_1
theorem dksX5_many_0 : cX5_many.data.toList.drop 0 = dktX5_many_0 := by decide +kernel
theorem dksX5_many_1 : cX5_many.data.toList.drop 24 = dktX5_many_1 := dk_seg dksX5_many_0 24 rfl rfl
theorem dksX5_many_2 : cX5_many.data.toList.drop 46 = dktX5_many_2 := dk_seg dksX5_many_1 22 rfl rfl
theorem dksX5_many_3 : cX5_many.data.toList.drop 69 = dktX5_many_3 := dk_seg dksX5_many_2 23 rfl rfl
theorem dX5_many_0 : decode cX5_many 0 = .ok (.iconst 1, 1) := dk_4 (dk_at dksX5_many_0 0 rfl rfl)
theorem dX5_many_1 : decode cX5_many 1 = .ok (.istore_n 3, 1) := dk_62 (dk_at dksX5_many_0 1 rfl rfl)
theorem dX5_many_2 : decode cX5_many 2 = .ok (.iload_n 1, 1) := dk_27 (dk_at dksX5_many_0 2 rfl rfl)
theorem dX5_many_3 : decode cX5_many 3 = .ok (.istore 4, 2) := dk_54 4 (dk_at dksX5_many_0 3 rfl rfl)
theorem dX5_many_5 : decode cX5_many 5 = .ok (.iload 4, 2) := dk_21 4 (dk_at dksX5_many_0 5 rfl rfl)
theorem dX5_many_7 : decode cX5_many 7 = .ok (.iload_n 2, 1) := dk_28 (dk_at dksX5_many_0 7 rfl rfl)
theorem dX5_many_8 : decode cX5_many 8 = .ok (.if_icmp .ge 77, 3) := dk_162 0 77 (dk_at dksX5_many_0 8 rfl rfl)
theorem dX5_many_11 : decode cX5_many 11 = .ok (.aload_n 0, 1) := dk_42 (dk_at dksX5_many_0 11 rfl rfl)
theorem dX5_many_12 : decode cX5_many 12 = .ok (.getfield 22, 3) := dk_180 0 22 (dk_at dksX5_many_0 12 rfl rfl)
theorem dX5_many_15 : decode cX5_many 15 = .ok (.iload 4, 2) := dk_21 4 (dk_at dksX5_many_0 15 rfl rfl)
theorem dX5_many_17 : decode cX5_many 17 = .ok (.iaload, 1) := dk_46 (dk_at dksX5_many_0 17 rfl rfl)
theorem dX5_many_18 : decode cX5_many 18 = .ok (.bipush 7, 2) := dk_16 7 (dk_at dksX5_many_0 18 rfl rfl)
theorem dX5_many_20 : decode cX5_many 20 = .ok (.if_icmp .ne 59, 3) := dk_160 0 59 (dk_at dksX5_many_0 20 rfl rfl)
theorem dX5_many_23 : decode cX5_many 23 = .ok (.aload_n 0, 1) := dk_42 (dk_at dksX5_many_0 23 rfl rfl)
theorem dX5_many_24 : decode cX5_many 24 = .ok (.iload 4, 2) := dk_21 4 (dk_at dksX5_many_1 0 rfl rfl)
theorem dX5_many_26 : decode cX5_many 26 = .ok (.iconst 1, 1) := dk_4 (dk_at dksX5_many_1 2 rfl rfl)
theorem dX5_many_27 : decode cX5_many 27 = .ok (.iadd, 1) := dk_96 (dk_at dksX5_many_1 3 rfl rfl)
theorem dX5_many_28 : decode cX5_many 28 = .ok (.bipush 8, 2) := dk_16 8 (dk_at dksX5_many_1 4 rfl rfl)
theorem dX5_many_30 : decode cX5_many 30 = .ok (.bipush 8, 2) := dk_16 8 (dk_at dksX5_many_1 6 rfl rfl)
theorem dX5_many_32 : decode cX5_many 32 = .ok (.invokevirtual 28, 3) := dk_182 0 28 (dk_at dksX5_many_1 8 rfl rfl)
theorem dX5_many_35 : decode cX5_many 35 = .ok (.istore 5, 2) := dk_54 5 (dk_at dksX5_many_1 11 rfl rfl)
theorem dX5_many_37 : decode cX5_many 37 = .ok (.aload_n 0, 1) := dk_42 (dk_at dksX5_many_1 13 rfl rfl)
theorem dX5_many_38 : decode cX5_many 38 = .ok (.iload 5, 2) := dk_21 5 (dk_at dksX5_many_1 14 rfl rfl)
theorem dX5_many_40 : decode cX5_many 40 = .ok (.iconst 1, 1) := dk_4 (dk_at dksX5_many_1 16 rfl rfl)
theorem dX5_many_41 : decode cX5_many 41 = .ok (.iadd, 1) := dk_96 (dk_at dksX5_many_1 17 rfl rfl)
theorem dX5_many_42 : decode cX5_many 42 = .ok (.bipush 9, 2) := dk_16 9 (dk_at dksX5_many_1 18 rfl rfl)
theorem dX5_many_44 : decode cX5_many 44 = .ok (.bipush 9, 2) := dk_16 9 (dk_at dksX5_many_1 20 rfl rfl)
theorem dX5_many_46 : decode cX5_many 46 = .ok (.invokevirtual 28, 3) := dk_182 0 28 (dk_at dksX5_many_2 0 rfl rfl)
theorem dX5_many_49 : decode cX5_many 49 = .ok (.istore 6, 2) := dk_54 6 (dk_at dksX5_many_2 3 rfl rfl)
theorem dX5_many_51 : decode cX5_many 51 = .ok (.iload_n 3, 1) := dk_29 (dk_at dksX5_many_2 5 rfl rfl)
theorem dX5_many_52 : decode cX5_many 52 = .ok (.aload_n 0, 1) := dk_42 (dk_at dksX5_many_2 6 rfl rfl)
theorem dX5_many_53 : decode cX5_many 53 = .ok (.iload 4, 2) := dk_21 4 (dk_at dksX5_many_2 7 rfl rfl)
theorem dX5_many_55 : decode cX5_many 55 = .ok (.iconst 1, 1) := dk_4 (dk_at dksX5_many_2 9 rfl rfl)
theorem dX5_many_56 : decode cX5_many 56 = .ok (.iadd, 1) := dk_96 (dk_at dksX5_many_2 10 rfl rfl)
theorem dX5_many_57 : decode cX5_many 57 = .ok (.iload 5, 2) := dk_21 5 (dk_at dksX5_many_2 11 rfl rfl)
theorem dX5_many_59 : decode cX5_many 59 = .ok (.invokestatic 32, 3) := dk_184 0 32 (dk_at dksX5_many_2 13 rfl rfl)
theorem dX5_many_62 : decode cX5_many 62 = .ok (.aload_n 0, 1) := dk_42 (dk_at dksX5_many_2 16 rfl rfl)
theorem dX5_many_63 : decode cX5_many 63 = .ok (.iload 5, 2) := dk_21 5 (dk_at dksX5_many_2 17 rfl rfl)
theorem dX5_many_65 : decode cX5_many 65 = .ok (.iconst 1, 1) := dk_4 (dk_at dksX5_many_2 19 rfl rfl)
theorem dX5_many_66 : decode cX5_many 66 = .ok (.iadd, 1) := dk_96 (dk_at dksX5_many_2 20 rfl rfl)
theorem dX5_many_67 : decode cX5_many 67 = .ok (.iload 6, 2) := dk_21 6 (dk_at dksX5_many_2 21 rfl rfl)
theorem dX5_many_69 : decode cX5_many 69 = .ok (.invokestatic 32, 3) := dk_184 0 32 (dk_at dksX5_many_3 0 rfl rfl)
theorem dX5_many_72 : decode cX5_many 72 = .ok (.iadd, 1) := dk_96 (dk_at dksX5_many_3 3 rfl rfl)
theorem dX5_many_73 : decode cX5_many 73 = .ok (.imul, 1) := dk_104 (dk_at dksX5_many_3 4 rfl rfl)
theorem dX5_many_74 : decode cX5_many 74 = .ok (.istore_n 3, 1) := dk_62 (dk_at dksX5_many_3 5 rfl rfl)
theorem dX5_many_75 : decode cX5_many 75 = .ok (.iload 6, 2) := dk_21 6 (dk_at dksX5_many_3 6 rfl rfl)
theorem dX5_many_77 : decode cX5_many 77 = .ok (.istore 4, 2) := dk_54 4 (dk_at dksX5_many_3 8 rfl rfl)
theorem dX5_many_79 : decode cX5_many 79 = .ok (.iinc 4 1, 3) := dk_132 4 1 (dk_at dksX5_many_3 10 rfl rfl)
theorem dX5_many_82 : decode cX5_many 82 = .ok (.goto (-77), 3) := dk_167 255 179 (dk_at dksX5_many_3 13 rfl rfl)
theorem dX5_many_85 : decode cX5_many 85 = .ok (.iload_n 3, 1) := dk_29 (dk_at dksX5_many_3 16 rfl rfl)
theorem dX5_many_86 : decode cX5_many 86 = .ok (.ireturn, 1) := dk_172 (dk_at dksX5_many_3 17 rfl rfl)
abbrev cX5_take : ByteArray := prog_9_method_6_code
def yX5_take : MethodName := ⟨RX5, "take", "(LPloughWills$Will;I)V"⟩
def dkwX5_take_2 : List UInt8 := [43, 180, 0, 54, 182, 0, 50, 177]
abbrev dktX5_take_2 : List UInt8 := dkwX5_take_2 ++ []
def dkwX5_take_1 : List UInt8 := [132, 3, 1, 167, 255, 233, 42, 3, 181, 0, 18, 42, 3, 181, 0, 43, 42, 28, 181, 0, 40, 42, 43, 3]
abbrev dktX5_take_1 : List UInt8 := dkwX5_take_1 ++ dktX5_take_2
def dkwX5_take_0 : List UInt8 := [3, 62, 29, 16, 24, 162, 0, 23, 42, 180, 0, 9, 29, 3, 84, 42, 180, 0, 15, 29, 3, 84]
abbrev dktX5_take_0 : List UInt8 := dkwX5_take_0 ++ dktX5_take_1
theorem dksX5_take_0 : cX5_take.data.toList.drop 0 = dktX5_take_0 := by decide +kernel
theorem dksX5_take_1 : cX5_take.data.toList.drop 22 = dktX5_take_1 := dk_seg dksX5_take_0 22 rfl rfl
theorem dksX5_take_2 : cX5_take.data.toList.drop 46 = dktX5_take_2 := dk_seg dksX5_take_1 24 rfl rfl
theorem dX5_take_0 : decode cX5_take 0 = .ok (.iconst 0, 1) := dk_3 (dk_at dksX5_take_0 0 rfl rfl)
theorem dX5_take_1 : decode cX5_take 1 = .ok (.istore_n 3, 1) := dk_62 (dk_at dksX5_take_0 1 rfl rfl)
theorem dX5_take_2 : decode cX5_take 2 = .ok (.iload_n 3, 1) := dk_29 (dk_at dksX5_take_0 2 rfl rfl)
theorem dX5_take_3 : decode cX5_take 3 = .ok (.bipush 24, 2) := dk_16 24 (dk_at dksX5_take_0 3 rfl rfl)
theorem dX5_take_5 : decode cX5_take 5 = .ok (.if_icmp .ge 23, 3) := dk_162 0 23 (dk_at dksX5_take_0 5 rfl rfl)
theorem dX5_take_8 : decode cX5_take 8 = .ok (.aload_n 0, 1) := dk_42 (dk_at dksX5_take_0 8 rfl rfl)
theorem dX5_take_9 : decode cX5_take 9 = .ok (.getfield 9, 3) := dk_180 0 9 (dk_at dksX5_take_0 9 rfl rfl)
theorem dX5_take_12 : decode cX5_take 12 = .ok (.iload_n 3, 1) := dk_29 (dk_at dksX5_take_0 12 rfl rfl)
theorem dX5_take_13 : decode cX5_take 13 = .ok (.iconst 0, 1) := dk_3 (dk_at dksX5_take_0 13 rfl rfl)
theorem dX5_take_14 : decode cX5_take 14 = .ok (.bastore, 1) := dk_84 (dk_at dksX5_take_0 14 rfl rfl)
theorem dX5_take_15 : decode cX5_take 15 = .ok (.aload_n 0, 1) := dk_42 (dk_at dksX5_take_0 15 rfl rfl)
theorem dX5_take_16 : decode cX5_take 16 = .ok (.getfield 15, 3) := dk_180 0 15 (dk_at dksX5_take_0 16 rfl rfl)
theorem dX5_take_19 : decode cX5_take 19 = .ok (.iload_n 3, 1) := dk_29 (dk_at dksX5_take_0 19 rfl rfl)
theorem dX5_take_20 : decode cX5_take 20 = .ok (.iconst 0, 1) := dk_3 (dk_at dksX5_take_0 20 rfl rfl)
theorem dX5_take_21 : decode cX5_take 21 = .ok (.bastore, 1) := dk_84 (dk_at dksX5_take_0 21 rfl rfl)
theorem dX5_take_22 : decode cX5_take 22 = .ok (.iinc 3 1, 3) := dk_132 3 1 (dk_at dksX5_take_1 0 rfl rfl)
theorem dX5_take_25 : decode cX5_take 25 = .ok (.goto (-23), 3) := dk_167 255 233 (dk_at dksX5_take_1 3 rfl rfl)
theorem dX5_take_28 : decode cX5_take 28 = .ok (.aload_n 0, 1) := dk_42 (dk_at dksX5_take_1 6 rfl rfl)
theorem dX5_take_29 : decode cX5_take 29 = .ok (.iconst 0, 1) := dk_3 (dk_at dksX5_take_1 7 rfl rfl)
theorem dX5_take_30 : decode cX5_take 30 = .ok (.putfield 18, 3) := dk_181 0 18 (dk_at dksX5_take_1 8 rfl rfl)
theorem dX5_take_33 : decode cX5_take 33 = .ok (.aload_n 0, 1) := dk_42 (dk_at dksX5_take_1 11 rfl rfl)
theorem dX5_take_34 : decode cX5_take 34 = .ok (.iconst 0, 1) := dk_3 (dk_at dksX5_take_1 12 rfl rfl)
theorem dX5_take_35 : decode cX5_take 35 = .ok (.putfield 43, 3) := dk_181 0 43 (dk_at dksX5_take_1 13 rfl rfl)
theorem dX5_take_38 : decode cX5_take 38 = .ok (.aload_n 0, 1) := dk_42 (dk_at dksX5_take_1 16 rfl rfl)
theorem dX5_take_39 : decode cX5_take 39 = .ok (.iload_n 2, 1) := dk_28 (dk_at dksX5_take_1 17 rfl rfl)
theorem dX5_take_40 : decode cX5_take 40 = .ok (.putfield 40, 3) := dk_181 0 40 (dk_at dksX5_take_1 18 rfl rfl)
theorem dX5_take_43 : decode cX5_take 43 = .ok (.aload_n 0, 1) := dk_42 (dk_at dksX5_take_1 21 rfl rfl)
theorem dX5_take_44 : decode cX5_take 44 = .ok (.aload_n 1, 1) := dk_43 (dk_at dksX5_take_1 22 rfl rfl)
theorem dX5_take_45 : decode cX5_take 45 = .ok (.iconst 0, 1) := dk_3 (dk_at dksX5_take_1 23 rfl rfl)
theorem dX5_take_46 : decode cX5_take 46 = .ok (.aload_n 1, 1) := dk_43 (dk_at dksX5_take_2 0 rfl rfl)
theorem dX5_take_47 : decode cX5_take 47 = .ok (.getfield 54, 3) := dk_180 0 54 (dk_at dksX5_take_2 1 rfl rfl)
theorem dX5_take_50 : decode cX5_take 50 = .ok (.invokevirtual 50, 3) := dk_182 0 50 (dk_at dksX5_take_2 4 rfl rfl)
theorem dX5_take_53 : decode cX5_take 53 = .ok (.return_, 1) := dk_177 (dk_at dksX5_take_2 7 rfl rfl)
abbrev cX5_goes : ByteArray := prog_9_method_4_code
def yX5_goes : MethodName := ⟨RX5, "goes", "(LPloughWills$Will;II)V"⟩
def dkwX5_goes_8 : List UInt8 := [21, 9, 182, 0, 36, 21, 6, 4, 96, 54, 4, 167, 255, 59, 177]
abbrev dktX5_goes_8 : List UInt8 := dkwX5_goes_8 ++ []
def dkwX5_goes_7 : List UInt8 := [182, 0, 36, 21, 9, 154, 0, 16, 42, 43, 21, 5, 4, 96, 21, 6, 21, 7, 182, 0, 46, 42, 21, 6]
abbrev dktX5_goes_7 : List UInt8 := dkwX5_goes_7 ++ dktX5_goes_8
def dkwX5_goes_6 : List UInt8 := [21, 9, 153, 0, 16, 42, 43, 21, 4, 4, 96, 21, 5, 21, 7, 182, 0, 46, 42, 21, 5, 21, 9]
abbrev dktX5_goes_6 : List UInt8 := dkwX5_goes_6 ++ dktX5_goes_7
def dkwX5_goes_5 : List UInt8 := [21, 8, 100, 181, 0, 40, 42, 89, 180, 0, 43, 4, 96, 181, 0, 43, 42, 21, 4, 21, 9, 182, 0, 36]
abbrev dktX5_goes_5 : List UInt8 := dkwX5_goes_5 ++ dktX5_goes_6
def dkwX5_goes_4 : List UInt8 := [162, 0, 7, 4, 167, 0, 4, 3, 54, 9, 42, 89, 180, 0, 40, 21, 9, 153, 0, 7, 3, 167, 0, 5]
abbrev dktX5_goes_4 : List UInt8 := dkwX5_goes_4 ++ dktX5_goes_5
def dkwX5_goes_3 : List UInt8 := [54, 7, 43, 21, 4, 4, 96, 21, 5, 184, 0, 32, 21, 7, 104, 54, 8, 42, 180, 0, 40, 21, 8]
abbrev dktX5_goes_3 : List UInt8 := dkwX5_goes_3 ++ dktX5_goes_4
def dkwX5_goes_2 : List UInt8 := [43, 21, 5, 4, 96, 16, 9, 16, 9, 182, 0, 28, 54, 6, 43, 21, 6, 4, 96, 29, 184, 0, 32]
abbrev dktX5_goes_2 : List UInt8 := dkwX5_goes_2 ++ dktX5_goes_3
def dkwX5_goes_1 : List UInt8 := [3, 182, 0, 36, 132, 4, 1, 167, 255, 228, 43, 21, 4, 4, 96, 16, 8, 16, 8, 182, 0, 28, 54, 5]
abbrev dktX5_goes_1 : List UInt8 := dkwX5_goes_1 ++ dktX5_goes_2
def dkwX5_goes_0 : List UInt8 := [28, 54, 4, 21, 4, 29, 162, 0, 197, 43, 180, 0, 22, 21, 4, 46, 16, 7, 159, 0, 16, 42, 21, 4]
abbrev dktX5_goes_0 : List UInt8 := dkwX5_goes_0 ++ dktX5_goes_1
theorem dksX5_goes_0 : cX5_goes.data.toList.drop 0 = dktX5_goes_0 := by decide +kernel
theorem dksX5_goes_1 : cX5_goes.data.toList.drop 24 = dktX5_goes_1 := dk_seg dksX5_goes_0 24 rfl rfl
theorem dksX5_goes_2 : cX5_goes.data.toList.drop 48 = dktX5_goes_2 := dk_seg dksX5_goes_1 24 rfl rfl
theorem dksX5_goes_3 : cX5_goes.data.toList.drop 71 = dktX5_goes_3 := dk_seg dksX5_goes_2 23 rfl rfl
theorem dksX5_goes_4 : cX5_goes.data.toList.drop 94 = dktX5_goes_4 := dk_seg dksX5_goes_3 23 rfl rfl
theorem dksX5_goes_5 : cX5_goes.data.toList.drop 118 = dktX5_goes_5 := dk_seg dksX5_goes_4 24 rfl rfl
theorem dksX5_goes_6 : cX5_goes.data.toList.drop 142 = dktX5_goes_6 := dk_seg dksX5_goes_5 24 rfl rfl
theorem dksX5_goes_7 : cX5_goes.data.toList.drop 165 = dktX5_goes_7 := dk_seg dksX5_goes_6 23 rfl rfl
theorem dksX5_goes_8 : cX5_goes.data.toList.drop 189 = dktX5_goes_8 := dk_seg dksX5_goes_7 24 rfl rfl
theorem dX5_goes_0 : decode cX5_goes 0 = .ok (.iload_n 2, 1) := dk_28 (dk_at dksX5_goes_0 0 rfl rfl)
theorem dX5_goes_1 : decode cX5_goes 1 = .ok (.istore 4, 2) := dk_54 4 (dk_at dksX5_goes_0 1 rfl rfl)
theorem dX5_goes_3 : decode cX5_goes 3 = .ok (.iload 4, 2) := dk_21 4 (dk_at dksX5_goes_0 3 rfl rfl)
theorem dX5_goes_5 : decode cX5_goes 5 = .ok (.iload_n 3, 1) := dk_29 (dk_at dksX5_goes_0 5 rfl rfl)
theorem dX5_goes_6 : decode cX5_goes 6 = .ok (.if_icmp .ge 197, 3) := dk_162 0 197 (dk_at dksX5_goes_0 6 rfl rfl)
theorem dX5_goes_9 : decode cX5_goes 9 = .ok (.aload_n 1, 1) := dk_43 (dk_at dksX5_goes_0 9 rfl rfl)
theorem dX5_goes_10 : decode cX5_goes 10 = .ok (.getfield 22, 3) := dk_180 0 22 (dk_at dksX5_goes_0 10 rfl rfl)
theorem dX5_goes_13 : decode cX5_goes 13 = .ok (.iload 4, 2) := dk_21 4 (dk_at dksX5_goes_0 13 rfl rfl)
theorem dX5_goes_15 : decode cX5_goes 15 = .ok (.iaload, 1) := dk_46 (dk_at dksX5_goes_0 15 rfl rfl)
theorem dX5_goes_16 : decode cX5_goes 16 = .ok (.bipush 7, 2) := dk_16 7 (dk_at dksX5_goes_0 16 rfl rfl)
theorem dX5_goes_18 : decode cX5_goes 18 = .ok (.if_icmp .eq 16, 3) := dk_159 0 16 (dk_at dksX5_goes_0 18 rfl rfl)
theorem dX5_goes_21 : decode cX5_goes 21 = .ok (.aload_n 0, 1) := dk_42 (dk_at dksX5_goes_0 21 rfl rfl)
theorem dX5_goes_22 : decode cX5_goes 22 = .ok (.iload 4, 2) := dk_21 4 (dk_at dksX5_goes_0 22 rfl rfl)
theorem dX5_goes_24 : decode cX5_goes 24 = .ok (.iconst 0, 1) := dk_3 (dk_at dksX5_goes_1 0 rfl rfl)
theorem dX5_goes_25 : decode cX5_goes 25 = .ok (.invokevirtual 36, 3) := dk_182 0 36 (dk_at dksX5_goes_1 1 rfl rfl)
theorem dX5_goes_28 : decode cX5_goes 28 = .ok (.iinc 4 1, 3) := dk_132 4 1 (dk_at dksX5_goes_1 4 rfl rfl)
theorem dX5_goes_31 : decode cX5_goes 31 = .ok (.goto (-28), 3) := dk_167 255 228 (dk_at dksX5_goes_1 7 rfl rfl)
theorem dX5_goes_34 : decode cX5_goes 34 = .ok (.aload_n 1, 1) := dk_43 (dk_at dksX5_goes_1 10 rfl rfl)
theorem dX5_goes_35 : decode cX5_goes 35 = .ok (.iload 4, 2) := dk_21 4 (dk_at dksX5_goes_1 11 rfl rfl)
theorem dX5_goes_37 : decode cX5_goes 37 = .ok (.iconst 1, 1) := dk_4 (dk_at dksX5_goes_1 13 rfl rfl)
theorem dX5_goes_38 : decode cX5_goes 38 = .ok (.iadd, 1) := dk_96 (dk_at dksX5_goes_1 14 rfl rfl)
theorem dX5_goes_39 : decode cX5_goes 39 = .ok (.bipush 8, 2) := dk_16 8 (dk_at dksX5_goes_1 15 rfl rfl)
theorem dX5_goes_41 : decode cX5_goes 41 = .ok (.bipush 8, 2) := dk_16 8 (dk_at dksX5_goes_1 17 rfl rfl)
theorem dX5_goes_43 : decode cX5_goes 43 = .ok (.invokevirtual 28, 3) := dk_182 0 28 (dk_at dksX5_goes_1 19 rfl rfl)
theorem dX5_goes_46 : decode cX5_goes 46 = .ok (.istore 5, 2) := dk_54 5 (dk_at dksX5_goes_1 22 rfl rfl)
theorem dX5_goes_48 : decode cX5_goes 48 = .ok (.aload_n 1, 1) := dk_43 (dk_at dksX5_goes_2 0 rfl rfl)
theorem dX5_goes_49 : decode cX5_goes 49 = .ok (.iload 5, 2) := dk_21 5 (dk_at dksX5_goes_2 1 rfl rfl)
theorem dX5_goes_51 : decode cX5_goes 51 = .ok (.iconst 1, 1) := dk_4 (dk_at dksX5_goes_2 3 rfl rfl)
theorem dX5_goes_52 : decode cX5_goes 52 = .ok (.iadd, 1) := dk_96 (dk_at dksX5_goes_2 4 rfl rfl)
theorem dX5_goes_53 : decode cX5_goes 53 = .ok (.bipush 9, 2) := dk_16 9 (dk_at dksX5_goes_2 5 rfl rfl)
theorem dX5_goes_55 : decode cX5_goes 55 = .ok (.bipush 9, 2) := dk_16 9 (dk_at dksX5_goes_2 7 rfl rfl)
theorem dX5_goes_57 : decode cX5_goes 57 = .ok (.invokevirtual 28, 3) := dk_182 0 28 (dk_at dksX5_goes_2 9 rfl rfl)
theorem dX5_goes_60 : decode cX5_goes 60 = .ok (.istore 6, 2) := dk_54 6 (dk_at dksX5_goes_2 12 rfl rfl)
theorem dX5_goes_62 : decode cX5_goes 62 = .ok (.aload_n 1, 1) := dk_43 (dk_at dksX5_goes_2 14 rfl rfl)
theorem dX5_goes_63 : decode cX5_goes 63 = .ok (.iload 6, 2) := dk_21 6 (dk_at dksX5_goes_2 15 rfl rfl)
theorem dX5_goes_65 : decode cX5_goes 65 = .ok (.iconst 1, 1) := dk_4 (dk_at dksX5_goes_2 17 rfl rfl)
theorem dX5_goes_66 : decode cX5_goes 66 = .ok (.iadd, 1) := dk_96 (dk_at dksX5_goes_2 18 rfl rfl)
theorem dX5_goes_67 : decode cX5_goes 67 = .ok (.iload_n 3, 1) := dk_29 (dk_at dksX5_goes_2 19 rfl rfl)
theorem dX5_goes_68 : decode cX5_goes 68 = .ok (.invokestatic 32, 3) := dk_184 0 32 (dk_at dksX5_goes_2 20 rfl rfl)
theorem dX5_goes_71 : decode cX5_goes 71 = .ok (.istore 7, 2) := dk_54 7 (dk_at dksX5_goes_3 0 rfl rfl)
theorem dX5_goes_73 : decode cX5_goes 73 = .ok (.aload_n 1, 1) := dk_43 (dk_at dksX5_goes_3 2 rfl rfl)
theorem dX5_goes_74 : decode cX5_goes 74 = .ok (.iload 4, 2) := dk_21 4 (dk_at dksX5_goes_3 3 rfl rfl)
theorem dX5_goes_76 : decode cX5_goes 76 = .ok (.iconst 1, 1) := dk_4 (dk_at dksX5_goes_3 5 rfl rfl)
theorem dX5_goes_77 : decode cX5_goes 77 = .ok (.iadd, 1) := dk_96 (dk_at dksX5_goes_3 6 rfl rfl)
theorem dX5_goes_78 : decode cX5_goes 78 = .ok (.iload 5, 2) := dk_21 5 (dk_at dksX5_goes_3 7 rfl rfl)
theorem dX5_goes_80 : decode cX5_goes 80 = .ok (.invokestatic 32, 3) := dk_184 0 32 (dk_at dksX5_goes_3 9 rfl rfl)
theorem dX5_goes_83 : decode cX5_goes 83 = .ok (.iload 7, 2) := dk_21 7 (dk_at dksX5_goes_3 12 rfl rfl)
theorem dX5_goes_85 : decode cX5_goes 85 = .ok (.imul, 1) := dk_104 (dk_at dksX5_goes_3 14 rfl rfl)
theorem dX5_goes_86 : decode cX5_goes 86 = .ok (.istore 8, 2) := dk_54 8 (dk_at dksX5_goes_3 15 rfl rfl)
theorem dX5_goes_88 : decode cX5_goes 88 = .ok (.aload_n 0, 1) := dk_42 (dk_at dksX5_goes_3 17 rfl rfl)
theorem dX5_goes_89 : decode cX5_goes 89 = .ok (.getfield 40, 3) := dk_180 0 40 (dk_at dksX5_goes_3 18 rfl rfl)
theorem dX5_goes_92 : decode cX5_goes 92 = .ok (.iload 8, 2) := dk_21 8 (dk_at dksX5_goes_3 21 rfl rfl)
theorem dX5_goes_94 : decode cX5_goes 94 = .ok (.if_icmp .ge 7, 3) := dk_162 0 7 (dk_at dksX5_goes_4 0 rfl rfl)
theorem dX5_goes_97 : decode cX5_goes 97 = .ok (.iconst 1, 1) := dk_4 (dk_at dksX5_goes_4 3 rfl rfl)
theorem dX5_goes_98 : decode cX5_goes 98 = .ok (.goto 4, 3) := dk_167 0 4 (dk_at dksX5_goes_4 4 rfl rfl)
theorem dX5_goes_101 : decode cX5_goes 101 = .ok (.iconst 0, 1) := dk_3 (dk_at dksX5_goes_4 7 rfl rfl)
theorem dX5_goes_102 : decode cX5_goes 102 = .ok (.istore 9, 2) := dk_54 9 (dk_at dksX5_goes_4 8 rfl rfl)
theorem dX5_goes_104 : decode cX5_goes 104 = .ok (.aload_n 0, 1) := dk_42 (dk_at dksX5_goes_4 10 rfl rfl)
theorem dX5_goes_105 : decode cX5_goes 105 = .ok (.dup, 1) := dk_89 (dk_at dksX5_goes_4 11 rfl rfl)
theorem dX5_goes_106 : decode cX5_goes 106 = .ok (.getfield 40, 3) := dk_180 0 40 (dk_at dksX5_goes_4 12 rfl rfl)
theorem dX5_goes_109 : decode cX5_goes 109 = .ok (.iload 9, 2) := dk_21 9 (dk_at dksX5_goes_4 15 rfl rfl)
theorem dX5_goes_111 : decode cX5_goes 111 = .ok (.ifCond .eq 7, 3) := dk_153 0 7 (dk_at dksX5_goes_4 17 rfl rfl)
theorem dX5_goes_114 : decode cX5_goes 114 = .ok (.iconst 0, 1) := dk_3 (dk_at dksX5_goes_4 20 rfl rfl)
theorem dX5_goes_115 : decode cX5_goes 115 = .ok (.goto 5, 3) := dk_167 0 5 (dk_at dksX5_goes_4 21 rfl rfl)
theorem dX5_goes_118 : decode cX5_goes 118 = .ok (.iload 8, 2) := dk_21 8 (dk_at dksX5_goes_5 0 rfl rfl)
theorem dX5_goes_120 : decode cX5_goes 120 = .ok (.isub, 1) := dk_100 (dk_at dksX5_goes_5 2 rfl rfl)
theorem dX5_goes_121 : decode cX5_goes 121 = .ok (.putfield 40, 3) := dk_181 0 40 (dk_at dksX5_goes_5 3 rfl rfl)
theorem dX5_goes_124 : decode cX5_goes 124 = .ok (.aload_n 0, 1) := dk_42 (dk_at dksX5_goes_5 6 rfl rfl)
theorem dX5_goes_125 : decode cX5_goes 125 = .ok (.dup, 1) := dk_89 (dk_at dksX5_goes_5 7 rfl rfl)
theorem dX5_goes_126 : decode cX5_goes 126 = .ok (.getfield 43, 3) := dk_180 0 43 (dk_at dksX5_goes_5 8 rfl rfl)
theorem dX5_goes_129 : decode cX5_goes 129 = .ok (.iconst 1, 1) := dk_4 (dk_at dksX5_goes_5 11 rfl rfl)
theorem dX5_goes_130 : decode cX5_goes 130 = .ok (.iadd, 1) := dk_96 (dk_at dksX5_goes_5 12 rfl rfl)
theorem dX5_goes_131 : decode cX5_goes 131 = .ok (.putfield 43, 3) := dk_181 0 43 (dk_at dksX5_goes_5 13 rfl rfl)
theorem dX5_goes_134 : decode cX5_goes 134 = .ok (.aload_n 0, 1) := dk_42 (dk_at dksX5_goes_5 16 rfl rfl)
theorem dX5_goes_135 : decode cX5_goes 135 = .ok (.iload 4, 2) := dk_21 4 (dk_at dksX5_goes_5 17 rfl rfl)
theorem dX5_goes_137 : decode cX5_goes 137 = .ok (.iload 9, 2) := dk_21 9 (dk_at dksX5_goes_5 19 rfl rfl)
theorem dX5_goes_139 : decode cX5_goes 139 = .ok (.invokevirtual 36, 3) := dk_182 0 36 (dk_at dksX5_goes_5 21 rfl rfl)
theorem dX5_goes_142 : decode cX5_goes 142 = .ok (.iload 9, 2) := dk_21 9 (dk_at dksX5_goes_6 0 rfl rfl)
theorem dX5_goes_144 : decode cX5_goes 144 = .ok (.ifCond .eq 16, 3) := dk_153 0 16 (dk_at dksX5_goes_6 2 rfl rfl)
theorem dX5_goes_147 : decode cX5_goes 147 = .ok (.aload_n 0, 1) := dk_42 (dk_at dksX5_goes_6 5 rfl rfl)
theorem dX5_goes_148 : decode cX5_goes 148 = .ok (.aload_n 1, 1) := dk_43 (dk_at dksX5_goes_6 6 rfl rfl)
theorem dX5_goes_149 : decode cX5_goes 149 = .ok (.iload 4, 2) := dk_21 4 (dk_at dksX5_goes_6 7 rfl rfl)
theorem dX5_goes_151 : decode cX5_goes 151 = .ok (.iconst 1, 1) := dk_4 (dk_at dksX5_goes_6 9 rfl rfl)
theorem dX5_goes_152 : decode cX5_goes 152 = .ok (.iadd, 1) := dk_96 (dk_at dksX5_goes_6 10 rfl rfl)
theorem dX5_goes_153 : decode cX5_goes 153 = .ok (.iload 5, 2) := dk_21 5 (dk_at dksX5_goes_6 11 rfl rfl)
theorem dX5_goes_155 : decode cX5_goes 155 = .ok (.iload 7, 2) := dk_21 7 (dk_at dksX5_goes_6 13 rfl rfl)
theorem dX5_goes_157 : decode cX5_goes 157 = .ok (.invokevirtual 46, 3) := dk_182 0 46 (dk_at dksX5_goes_6 15 rfl rfl)
theorem dX5_goes_160 : decode cX5_goes 160 = .ok (.aload_n 0, 1) := dk_42 (dk_at dksX5_goes_6 18 rfl rfl)
theorem dX5_goes_161 : decode cX5_goes 161 = .ok (.iload 5, 2) := dk_21 5 (dk_at dksX5_goes_6 19 rfl rfl)
theorem dX5_goes_163 : decode cX5_goes 163 = .ok (.iload 9, 2) := dk_21 9 (dk_at dksX5_goes_6 21 rfl rfl)
theorem dX5_goes_165 : decode cX5_goes 165 = .ok (.invokevirtual 36, 3) := dk_182 0 36 (dk_at dksX5_goes_7 0 rfl rfl)
theorem dX5_goes_168 : decode cX5_goes 168 = .ok (.iload 9, 2) := dk_21 9 (dk_at dksX5_goes_7 3 rfl rfl)
theorem dX5_goes_170 : decode cX5_goes 170 = .ok (.ifCond .ne 16, 3) := dk_154 0 16 (dk_at dksX5_goes_7 5 rfl rfl)
theorem dX5_goes_173 : decode cX5_goes 173 = .ok (.aload_n 0, 1) := dk_42 (dk_at dksX5_goes_7 8 rfl rfl)
theorem dX5_goes_174 : decode cX5_goes 174 = .ok (.aload_n 1, 1) := dk_43 (dk_at dksX5_goes_7 9 rfl rfl)
theorem dX5_goes_175 : decode cX5_goes 175 = .ok (.iload 5, 2) := dk_21 5 (dk_at dksX5_goes_7 10 rfl rfl)
theorem dX5_goes_177 : decode cX5_goes 177 = .ok (.iconst 1, 1) := dk_4 (dk_at dksX5_goes_7 12 rfl rfl)
theorem dX5_goes_178 : decode cX5_goes 178 = .ok (.iadd, 1) := dk_96 (dk_at dksX5_goes_7 13 rfl rfl)
theorem dX5_goes_179 : decode cX5_goes 179 = .ok (.iload 6, 2) := dk_21 6 (dk_at dksX5_goes_7 14 rfl rfl)
theorem dX5_goes_181 : decode cX5_goes 181 = .ok (.iload 7, 2) := dk_21 7 (dk_at dksX5_goes_7 16 rfl rfl)
theorem dX5_goes_183 : decode cX5_goes 183 = .ok (.invokevirtual 46, 3) := dk_182 0 46 (dk_at dksX5_goes_7 18 rfl rfl)
theorem dX5_goes_186 : decode cX5_goes 186 = .ok (.aload_n 0, 1) := dk_42 (dk_at dksX5_goes_7 21 rfl rfl)
theorem dX5_goes_187 : decode cX5_goes 187 = .ok (.iload 6, 2) := dk_21 6 (dk_at dksX5_goes_7 22 rfl rfl)
theorem dX5_goes_189 : decode cX5_goes 189 = .ok (.iload 9, 2) := dk_21 9 (dk_at dksX5_goes_8 0 rfl rfl)
theorem dX5_goes_191 : decode cX5_goes 191 = .ok (.invokevirtual 36, 3) := dk_182 0 36 (dk_at dksX5_goes_8 2 rfl rfl)
theorem dX5_goes_194 : decode cX5_goes 194 = .ok (.iload 6, 2) := dk_21 6 (dk_at dksX5_goes_8 5 rfl rfl)
theorem dX5_goes_196 : decode cX5_goes 196 = .ok (.iconst 1, 1) := dk_4 (dk_at dksX5_goes_8 7 rfl rfl)
theorem dX5_goes_197 : decode cX5_goes 197 = .ok (.iadd, 1) := dk_96 (dk_at dksX5_goes_8 8 rfl rfl)
theorem dX5_goes_198 : decode cX5_goes 198 = .ok (.istore 4, 2) := dk_54 4 (dk_at dksX5_goes_8 9 rfl rfl)
theorem dX5_goes_200 : decode cX5_goes 200 = .ok (.goto (-197), 3) := dk_167 255 59 (dk_at dksX5_goes_8 11 rfl rfl)
theorem dX5_goes_203 : decode cX5_goes 203 = .ok (.return_, 1) := dk_177 (dk_at dksX5_goes_8 14 rfl rfl)
abbrev cX5_by : ByteArray := prog_9_method_2_code
def yX5_by : MethodName := ⟨RX5, "by", "(IZ)V"⟩
def dkwX5_by_1 : List UInt8 := [177]
abbrev dktX5_by_1 : List UInt8 := dkwX5_by_1 ++ []
def dkwX5_by_0 : List UInt8 := [42, 180, 0, 9, 27, 4, 84, 42, 180, 0, 15, 27, 28, 84, 42, 89, 180, 0, 18, 4, 96, 181, 0, 18]
abbrev dktX5_by_0 : List UInt8 := dkwX5_by_0 ++ dktX5_by_1
theorem dksX5_by_0 : cX5_by.data.toList.drop 0 = dktX5_by_0 := by decide +kernel
theorem dksX5_by_1 : cX5_by.data.toList.drop 24 = dktX5_by_1 := dk_seg dksX5_by_0 24 rfl rfl
theorem dX5_by_0 : decode cX5_by 0 = .ok (.aload_n 0, 1) := dk_42 (dk_at dksX5_by_0 0 rfl rfl)
theorem dX5_by_1 : decode cX5_by 1 = .ok (.getfield 9, 3) := dk_180 0 9 (dk_at dksX5_by_0 1 rfl rfl)
theorem dX5_by_4 : decode cX5_by 4 = .ok (.iload_n 1, 1) := dk_27 (dk_at dksX5_by_0 4 rfl rfl)
theorem dX5_by_5 : decode cX5_by 5 = .ok (.iconst 1, 1) := dk_4 (dk_at dksX5_by_0 5 rfl rfl)
theorem dX5_by_6 : decode cX5_by 6 = .ok (.bastore, 1) := dk_84 (dk_at dksX5_by_0 6 rfl rfl)
theorem dX5_by_7 : decode cX5_by 7 = .ok (.aload_n 0, 1) := dk_42 (dk_at dksX5_by_0 7 rfl rfl)
theorem dX5_by_8 : decode cX5_by 8 = .ok (.getfield 15, 3) := dk_180 0 15 (dk_at dksX5_by_0 8 rfl rfl)
theorem dX5_by_11 : decode cX5_by 11 = .ok (.iload_n 1, 1) := dk_27 (dk_at dksX5_by_0 11 rfl rfl)
theorem dX5_by_12 : decode cX5_by 12 = .ok (.iload_n 2, 1) := dk_28 (dk_at dksX5_by_0 12 rfl rfl)
theorem dX5_by_13 : decode cX5_by 13 = .ok (.bastore, 1) := dk_84 (dk_at dksX5_by_0 13 rfl rfl)
theorem dX5_by_14 : decode cX5_by 14 = .ok (.aload_n 0, 1) := dk_42 (dk_at dksX5_by_0 14 rfl rfl)
theorem dX5_by_15 : decode cX5_by 15 = .ok (.dup, 1) := dk_89 (dk_at dksX5_by_0 15 rfl rfl)
theorem dX5_by_16 : decode cX5_by 16 = .ok (.getfield 18, 3) := dk_180 0 18 (dk_at dksX5_by_0 16 rfl rfl)
theorem dX5_by_19 : decode cX5_by 19 = .ok (.iconst 1, 1) := dk_4 (dk_at dksX5_by_0 19 rfl rfl)
theorem dX5_by_20 : decode cX5_by 20 = .ok (.iadd, 1) := dk_96 (dk_at dksX5_by_0 20 rfl rfl)
theorem dX5_by_21 : decode cX5_by 21 = .ok (.putfield 18, 3) := dk_181 0 18 (dk_at dksX5_by_0 21 rfl rfl)
theorem dX5_by_24 : decode cX5_by 24 = .ok (.return_, 1) := dk_177 (dk_at dksX5_by_1 0 rfl rfl)
abbrev cX5_goesWithin : ByteArray := prog_9_method_5_code
def yX5_goesWithin : MethodName := ⟨RX5, "goesWithin", "(LPloughWills$Will;III)V"⟩
def dkwX5_goesWithin_1 : List UInt8 := [42, 43, 28, 29, 182, 0, 50, 42, 21, 6, 181, 0, 40, 177]
abbrev dktX5_goesWithin_1 : List UInt8 := dkwX5_goesWithin_1 ++ []
def dkwX5_goesWithin_0 : List UInt8 := [42, 180, 0, 40, 21, 4, 108, 54, 5, 42, 180, 0, 40, 21, 4, 112, 54, 6, 42, 21, 5, 181, 0, 40]
abbrev dktX5_goesWithin_0 : List UInt8 := dkwX5_goesWithin_0 ++ dktX5_goesWithin_1
theorem dksX5_goesWithin_0 : cX5_goesWithin.data.toList.drop 0 = dktX5_goesWithin_0 := by decide +kernel
theorem dksX5_goesWithin_1 : cX5_goesWithin.data.toList.drop 24 = dktX5_goesWithin_1 := dk_seg dksX5_goesWithin_0 24 rfl rfl
theorem dX5_goesWithin_0 : decode cX5_goesWithin 0 = .ok (.aload_n 0, 1) := dk_42 (dk_at dksX5_goesWithin_0 0 rfl rfl)
theorem dX5_goesWithin_1 : decode cX5_goesWithin 1 = .ok (.getfield 40, 3) := dk_180 0 40 (dk_at dksX5_goesWithin_0 1 rfl rfl)
theorem dX5_goesWithin_4 : decode cX5_goesWithin 4 = .ok (.iload 4, 2) := dk_21 4 (dk_at dksX5_goesWithin_0 4 rfl rfl)
theorem dX5_goesWithin_6 : decode cX5_goesWithin 6 = .ok (.idiv, 1) := dk_108 (dk_at dksX5_goesWithin_0 6 rfl rfl)
theorem dX5_goesWithin_7 : decode cX5_goesWithin 7 = .ok (.istore 5, 2) := dk_54 5 (dk_at dksX5_goesWithin_0 7 rfl rfl)
theorem dX5_goesWithin_9 : decode cX5_goesWithin 9 = .ok (.aload_n 0, 1) := dk_42 (dk_at dksX5_goesWithin_0 9 rfl rfl)
theorem dX5_goesWithin_10 : decode cX5_goesWithin 10 = .ok (.getfield 40, 3) := dk_180 0 40 (dk_at dksX5_goesWithin_0 10 rfl rfl)
theorem dX5_goesWithin_13 : decode cX5_goesWithin 13 = .ok (.iload 4, 2) := dk_21 4 (dk_at dksX5_goesWithin_0 13 rfl rfl)
theorem dX5_goesWithin_15 : decode cX5_goesWithin 15 = .ok (.irem, 1) := dk_112 (dk_at dksX5_goesWithin_0 15 rfl rfl)
theorem dX5_goesWithin_16 : decode cX5_goesWithin 16 = .ok (.istore 6, 2) := dk_54 6 (dk_at dksX5_goesWithin_0 16 rfl rfl)
theorem dX5_goesWithin_18 : decode cX5_goesWithin 18 = .ok (.aload_n 0, 1) := dk_42 (dk_at dksX5_goesWithin_0 18 rfl rfl)
theorem dX5_goesWithin_19 : decode cX5_goesWithin 19 = .ok (.iload 5, 2) := dk_21 5 (dk_at dksX5_goesWithin_0 19 rfl rfl)
theorem dX5_goesWithin_21 : decode cX5_goesWithin 21 = .ok (.putfield 40, 3) := dk_181 0 40 (dk_at dksX5_goesWithin_0 21 rfl rfl)
theorem dX5_goesWithin_24 : decode cX5_goesWithin 24 = .ok (.aload_n 0, 1) := dk_42 (dk_at dksX5_goesWithin_1 0 rfl rfl)
theorem dX5_goesWithin_25 : decode cX5_goesWithin 25 = .ok (.aload_n 1, 1) := dk_43 (dk_at dksX5_goesWithin_1 1 rfl rfl)
theorem dX5_goesWithin_26 : decode cX5_goesWithin 26 = .ok (.iload_n 2, 1) := dk_28 (dk_at dksX5_goesWithin_1 2 rfl rfl)
theorem dX5_goesWithin_27 : decode cX5_goesWithin 27 = .ok (.iload_n 3, 1) := dk_29 (dk_at dksX5_goesWithin_1 3 rfl rfl)
theorem dX5_goesWithin_28 : decode cX5_goesWithin 28 = .ok (.invokevirtual 50, 3) := dk_182 0 50 (dk_at dksX5_goesWithin_1 4 rfl rfl)
theorem dX5_goesWithin_31 : decode cX5_goesWithin 31 = .ok (.aload_n 0, 1) := dk_42 (dk_at dksX5_goesWithin_1 7 rfl rfl)
theorem dX5_goesWithin_32 : decode cX5_goesWithin 32 = .ok (.iload 6, 2) := dk_21 6 (dk_at dksX5_goesWithin_1 8 rfl rfl)
theorem dX5_goesWithin_34 : decode cX5_goesWithin 34 = .ok (.putfield 40, 3) := dk_181 0 40 (dk_at dksX5_goesWithin_1 10 rfl rfl)
theorem dX5_goesWithin_37 : decode cX5_goesWithin 37 = .ok (.return_, 1) := dk_177 (dk_at dksX5_goesWithin_1 13 rfl rfl)
abbrev cX5_worth : ByteArray := prog_9_method_7_code
def yX5_worth : MethodName := ⟨RX5, "worth", "(LPloughWills$Will;)I"⟩
def dkwX5_worth_1 : List UInt8 := [182, 0, 57, 167, 0, 4, 3, 96, 61, 132, 3, 1, 167, 255, 224, 28, 172]
abbrev dktX5_worth_1 : List UInt8 := dkwX5_worth_1 ++ []
def dkwX5_worth_0 : List UInt8 := [3, 61, 3, 62, 29, 43, 180, 0, 54, 162, 0, 30, 28, 42, 180, 0, 9, 29, 51, 153, 0, 11, 43, 29]
abbrev dktX5_worth_0 : List UInt8 := dkwX5_worth_0 ++ dktX5_worth_1
theorem dksX5_worth_0 : cX5_worth.data.toList.drop 0 = dktX5_worth_0 := by decide +kernel
theorem dksX5_worth_1 : cX5_worth.data.toList.drop 24 = dktX5_worth_1 := dk_seg dksX5_worth_0 24 rfl rfl
theorem dX5_worth_0 : decode cX5_worth 0 = .ok (.iconst 0, 1) := dk_3 (dk_at dksX5_worth_0 0 rfl rfl)
theorem dX5_worth_1 : decode cX5_worth 1 = .ok (.istore_n 2, 1) := dk_61 (dk_at dksX5_worth_0 1 rfl rfl)
theorem dX5_worth_2 : decode cX5_worth 2 = .ok (.iconst 0, 1) := dk_3 (dk_at dksX5_worth_0 2 rfl rfl)
theorem dX5_worth_3 : decode cX5_worth 3 = .ok (.istore_n 3, 1) := dk_62 (dk_at dksX5_worth_0 3 rfl rfl)
theorem dX5_worth_4 : decode cX5_worth 4 = .ok (.iload_n 3, 1) := dk_29 (dk_at dksX5_worth_0 4 rfl rfl)
theorem dX5_worth_5 : decode cX5_worth 5 = .ok (.aload_n 1, 1) := dk_43 (dk_at dksX5_worth_0 5 rfl rfl)
theorem dX5_worth_6 : decode cX5_worth 6 = .ok (.getfield 54, 3) := dk_180 0 54 (dk_at dksX5_worth_0 6 rfl rfl)
theorem dX5_worth_9 : decode cX5_worth 9 = .ok (.if_icmp .ge 30, 3) := dk_162 0 30 (dk_at dksX5_worth_0 9 rfl rfl)
theorem dX5_worth_12 : decode cX5_worth 12 = .ok (.iload_n 2, 1) := dk_28 (dk_at dksX5_worth_0 12 rfl rfl)
theorem dX5_worth_13 : decode cX5_worth 13 = .ok (.aload_n 0, 1) := dk_42 (dk_at dksX5_worth_0 13 rfl rfl)
theorem dX5_worth_14 : decode cX5_worth 14 = .ok (.getfield 9, 3) := dk_180 0 9 (dk_at dksX5_worth_0 14 rfl rfl)
theorem dX5_worth_17 : decode cX5_worth 17 = .ok (.iload_n 3, 1) := dk_29 (dk_at dksX5_worth_0 17 rfl rfl)
theorem dX5_worth_18 : decode cX5_worth 18 = .ok (.baload, 1) := dk_51 (dk_at dksX5_worth_0 18 rfl rfl)
theorem dX5_worth_19 : decode cX5_worth 19 = .ok (.ifCond .eq 11, 3) := dk_153 0 11 (dk_at dksX5_worth_0 19 rfl rfl)
theorem dX5_worth_22 : decode cX5_worth 22 = .ok (.aload_n 1, 1) := dk_43 (dk_at dksX5_worth_0 22 rfl rfl)
theorem dX5_worth_23 : decode cX5_worth 23 = .ok (.iload_n 3, 1) := dk_29 (dk_at dksX5_worth_0 23 rfl rfl)
theorem dX5_worth_24 : decode cX5_worth 24 = .ok (.invokevirtual 57, 3) := dk_182 0 57 (dk_at dksX5_worth_1 0 rfl rfl)
theorem dX5_worth_27 : decode cX5_worth 27 = .ok (.goto 4, 3) := dk_167 0 4 (dk_at dksX5_worth_1 3 rfl rfl)
theorem dX5_worth_30 : decode cX5_worth 30 = .ok (.iconst 0, 1) := dk_3 (dk_at dksX5_worth_1 6 rfl rfl)
theorem dX5_worth_31 : decode cX5_worth 31 = .ok (.iadd, 1) := dk_96 (dk_at dksX5_worth_1 7 rfl rfl)
theorem dX5_worth_32 : decode cX5_worth 32 = .ok (.istore_n 2, 1) := dk_61 (dk_at dksX5_worth_1 8 rfl rfl)
theorem dX5_worth_33 : decode cX5_worth 33 = .ok (.iinc 3 1, 3) := dk_132 3 1 (dk_at dksX5_worth_1 9 rfl rfl)
theorem dX5_worth_36 : decode cX5_worth 36 = .ok (.goto (-32), 3) := dk_167 255 224 (dk_at dksX5_worth_1 12 rfl rfl)
theorem dX5_worth_39 : decode cX5_worth 39 = .ok (.iload_n 2, 1) := dk_28 (dk_at dksX5_worth_1 15 rfl rfl)
theorem dX5_worth_40 : decode cX5_worth 40 = .ok (.ireturn, 1) := dk_172 (dk_at dksX5_worth_1 16 rfl rfl)
abbrev cX5_tithes : ByteArray := prog_9_method_8_code
def yX5_tithes : MethodName := ⟨RX5, "tithes", "(LPloughWills$Will;)F"⟩
def dkwX5_tithes_2 : List UInt8 := [174]
abbrev dktX5_tithes_2 : List UInt8 := dkwX5_tithes_2 ++ []
def dkwX5_tithes_1 : List UInt8 := [180, 0, 22, 29, 46, 6, 160, 0, 11, 36, 43, 29, 182, 0, 61, 98, 69, 132, 3, 1, 167, 255, 218, 36]
abbrev dktX5_tithes_1 : List UInt8 := dkwX5_tithes_1 ++ dktX5_tithes_2
def dkwX5_tithes_0 : List UInt8 := [11, 69, 3, 62, 29, 43, 180, 0, 54, 162, 0, 36, 42, 180, 0, 9, 29, 51, 153, 0, 21, 43]
abbrev dktX5_tithes_0 : List UInt8 := dkwX5_tithes_0 ++ dktX5_tithes_1
theorem dksX5_tithes_0 : cX5_tithes.data.toList.drop 0 = dktX5_tithes_0 := by decide +kernel
theorem dksX5_tithes_1 : cX5_tithes.data.toList.drop 22 = dktX5_tithes_1 := dk_seg dksX5_tithes_0 22 rfl rfl
theorem dksX5_tithes_2 : cX5_tithes.data.toList.drop 46 = dktX5_tithes_2 := dk_seg dksX5_tithes_1 24 rfl rfl
theorem dX5_tithes_0 : decode cX5_tithes 0 = .ok (.fconst 0, 1) := dk_11 (dk_at dksX5_tithes_0 0 rfl rfl)
theorem dX5_tithes_1 : decode cX5_tithes 1 = .ok (.fstore_n 2, 1) := dk_69 (dk_at dksX5_tithes_0 1 rfl rfl)
theorem dX5_tithes_2 : decode cX5_tithes 2 = .ok (.iconst 0, 1) := dk_3 (dk_at dksX5_tithes_0 2 rfl rfl)
theorem dX5_tithes_3 : decode cX5_tithes 3 = .ok (.istore_n 3, 1) := dk_62 (dk_at dksX5_tithes_0 3 rfl rfl)
theorem dX5_tithes_4 : decode cX5_tithes 4 = .ok (.iload_n 3, 1) := dk_29 (dk_at dksX5_tithes_0 4 rfl rfl)
theorem dX5_tithes_5 : decode cX5_tithes 5 = .ok (.aload_n 1, 1) := dk_43 (dk_at dksX5_tithes_0 5 rfl rfl)
theorem dX5_tithes_6 : decode cX5_tithes 6 = .ok (.getfield 54, 3) := dk_180 0 54 (dk_at dksX5_tithes_0 6 rfl rfl)
theorem dX5_tithes_9 : decode cX5_tithes 9 = .ok (.if_icmp .ge 36, 3) := dk_162 0 36 (dk_at dksX5_tithes_0 9 rfl rfl)
theorem dX5_tithes_12 : decode cX5_tithes 12 = .ok (.aload_n 0, 1) := dk_42 (dk_at dksX5_tithes_0 12 rfl rfl)
theorem dX5_tithes_13 : decode cX5_tithes 13 = .ok (.getfield 9, 3) := dk_180 0 9 (dk_at dksX5_tithes_0 13 rfl rfl)
theorem dX5_tithes_16 : decode cX5_tithes 16 = .ok (.iload_n 3, 1) := dk_29 (dk_at dksX5_tithes_0 16 rfl rfl)
theorem dX5_tithes_17 : decode cX5_tithes 17 = .ok (.baload, 1) := dk_51 (dk_at dksX5_tithes_0 17 rfl rfl)
theorem dX5_tithes_18 : decode cX5_tithes 18 = .ok (.ifCond .eq 21, 3) := dk_153 0 21 (dk_at dksX5_tithes_0 18 rfl rfl)
theorem dX5_tithes_21 : decode cX5_tithes 21 = .ok (.aload_n 1, 1) := dk_43 (dk_at dksX5_tithes_0 21 rfl rfl)
theorem dX5_tithes_22 : decode cX5_tithes 22 = .ok (.getfield 22, 3) := dk_180 0 22 (dk_at dksX5_tithes_1 0 rfl rfl)
theorem dX5_tithes_25 : decode cX5_tithes 25 = .ok (.iload_n 3, 1) := dk_29 (dk_at dksX5_tithes_1 3 rfl rfl)
theorem dX5_tithes_26 : decode cX5_tithes 26 = .ok (.iaload, 1) := dk_46 (dk_at dksX5_tithes_1 4 rfl rfl)
theorem dX5_tithes_27 : decode cX5_tithes 27 = .ok (.iconst 3, 1) := dk_6 (dk_at dksX5_tithes_1 5 rfl rfl)
theorem dX5_tithes_28 : decode cX5_tithes 28 = .ok (.if_icmp .ne 11, 3) := dk_160 0 11 (dk_at dksX5_tithes_1 6 rfl rfl)
theorem dX5_tithes_31 : decode cX5_tithes 31 = .ok (.fload_n 2, 1) := dk_36 (dk_at dksX5_tithes_1 9 rfl rfl)
theorem dX5_tithes_32 : decode cX5_tithes 32 = .ok (.aload_n 1, 1) := dk_43 (dk_at dksX5_tithes_1 10 rfl rfl)
theorem dX5_tithes_33 : decode cX5_tithes 33 = .ok (.iload_n 3, 1) := dk_29 (dk_at dksX5_tithes_1 11 rfl rfl)
theorem dX5_tithes_34 : decode cX5_tithes 34 = .ok (.invokevirtual 61, 3) := dk_182 0 61 (dk_at dksX5_tithes_1 12 rfl rfl)
theorem dX5_tithes_37 : decode cX5_tithes 37 = .ok (.fadd, 1) := dk_98 (dk_at dksX5_tithes_1 15 rfl rfl)
theorem dX5_tithes_38 : decode cX5_tithes 38 = .ok (.fstore_n 2, 1) := dk_69 (dk_at dksX5_tithes_1 16 rfl rfl)
theorem dX5_tithes_39 : decode cX5_tithes 39 = .ok (.iinc 3 1, 3) := dk_132 3 1 (dk_at dksX5_tithes_1 17 rfl rfl)
theorem dX5_tithes_42 : decode cX5_tithes 42 = .ok (.goto (-38), 3) := dk_167 255 218 (dk_at dksX5_tithes_1 20 rfl rfl)
theorem dX5_tithes_45 : decode cX5_tithes 45 = .ok (.fload_n 2, 1) := dk_36 (dk_at dksX5_tithes_1 23 rfl rfl)
theorem dX5_tithes_46 : decode cX5_tithes 46 = .ok (.freturn, 1) := dk_174 (dk_at dksX5_tithes_2 0 rfl rfl)
theorem q82 : (Jvm.Cond.initialized "PloughWills$Path") ∈ lw_all := lw_g (lw_at lw_m1 7 rfl) rfl
theorem q155 : (Jvm.Cond.fieldLinkNest "PloughWills$Path" (22 : Nat) "PloughWills$Will" "sorts" "[I" "PloughWills") ∈ lw_tbl := lw_at lw_m1 80 rfl
theorem q169 : (Jvm.Cond.fieldLinkNest "PloughWills$Path" (54 : Nat) "PloughWills$Will" "size" "I" "PloughWills") ∈ lw_tbl := lw_at lw_m1 94 rfl
theorem q296 : (Jvm.Cond.instantiable "PloughWills$Path" (5 : Nat)) ∈ lw_all := lw_g (lw_at lw_m1 221 rfl) rfl
theorem q298 : (Jvm.Cond.instanceMethod ({ cls := "PloughWills$Path", name := "<init>", desc := "()V" } : Jvm.MethodName)) ∈ lw_all := lw_g (lw_at lw_m1 223 rfl) rfl
theorem q299 : (Jvm.Cond.code ({ cls := "PloughWills$Path", name := "<init>", desc := "()V" } : Jvm.MethodName) prog_9_method_1_code (1 : Nat) (Option.none : Option Jvm.ClassFile.FieldType)) ∈ lw_all := lw_g (lw_at lw_m1 224 rfl) rfl
theorem q300 : (Jvm.Cond.methodLink "PloughWills$Path" (3 : Nat) ({ cls := "java/lang/Object", name := "<init>", desc := "()V" } : Jvm.MethodName)) ∈ lw_all := lw_g (lw_at lw_m1 225 rfl) rfl
theorem q301 : (Jvm.Cond.fieldLink "PloughWills$Path" (9 : Nat) "PloughWills$Path" "goesBy" "[Z") ∈ lw_all := lw_g (lw_at lw_m1 226 rfl) rfl
theorem q304 : (Jvm.Cond.fieldLink "PloughWills$Path" (15 : Nat) "PloughWills$Path" "isFirst" "[Z") ∈ lw_all := lw_g (lw_at lw_m1 229 rfl) rfl
theorem q306 : (Jvm.Cond.fieldLink "PloughWills$Path" (18 : Nat) "PloughWills$Path" "clauses" "I") ∈ lw_all := lw_g (lw_at lw_m1 231 rfl) rfl
theorem q308 : (Jvm.Cond.fieldLink "PloughWills$Path" (43 : Nat) "PloughWills$Path" "choices" "I") ∈ lw_all := lw_g (lw_at lw_m1 233 rfl) rfl
theorem q310 : (Jvm.Cond.fieldLink "PloughWills$Path" (40 : Nat) "PloughWills$Path" "left" "I") ∈ lw_all := lw_g (lw_at lw_m1 235 rfl) rfl
theorem q311 : (Jvm.Cond.laysFinal "PloughWills$Path" "PloughWills$Path" "goesBy" "[Z") ∈ lw_all := lw_g (lw_at lw_m1 236 rfl) rfl
theorem q312 : (Jvm.Cond.soleField "PloughWills$Path" "goesBy") ∈ lw_all := lw_g (lw_at lw_m1 237 rfl) rfl
theorem q313 : (Jvm.Cond.laysFinal "PloughWills$Path" "PloughWills$Path" "isFirst" "[Z") ∈ lw_all := lw_g (lw_at lw_m1 238 rfl) rfl
theorem q314 : (Jvm.Cond.soleField "PloughWills$Path" "isFirst") ∈ lw_all := lw_g (lw_at lw_m1 239 rfl) rfl
theorem q315 : (Jvm.Cond.lays "PloughWills$Path" "PloughWills$Path" "clauses" "I") ∈ lw_all := lw_g (lw_at lw_m2 0 rfl) rfl
theorem q316 : (Jvm.Cond.soleField "PloughWills$Path" "clauses") ∈ lw_all := lw_g (lw_at lw_m2 1 rfl) rfl
theorem q317 : (Jvm.Cond.lays "PloughWills$Path" "PloughWills$Path" "choices" "I") ∈ lw_all := lw_g (lw_at lw_m2 2 rfl) rfl
theorem q318 : (Jvm.Cond.soleField "PloughWills$Path" "choices") ∈ lw_all := lw_g (lw_at lw_m2 3 rfl) rfl
theorem q319 : (Jvm.Cond.lays "PloughWills$Path" "PloughWills$Path" "left" "I") ∈ lw_all := lw_g (lw_at lw_m2 4 rfl) rfl
theorem q320 : (Jvm.Cond.soleField "PloughWills$Path" "left") ∈ lw_all := lw_g (lw_at lw_m2 5 rfl) rfl
theorem q321 : (Jvm.Cond.superclass "PloughWills$Path" "java/lang/Object") ∈ lw_all := lw_g (lw_at lw_m2 6 rfl) rfl
theorem q511 : (Jvm.Cond.selects "PloughWills$Path" ({ cls := "java/lang/Object", name := "getClass", desc := "()Ljava/lang/Class;" } : Jvm.MethodName) ({ cls := "java/lang/Object", name := "getClass", desc := "()Ljava/lang/Class;" } : Jvm.MethodName)) ∈ lw_all := lw_g (lw_at lw_m2 196 rfl) rfl
theorem q608 : (Jvm.Cond.static ({ cls := "PloughWills$Path", name := "many", desc := "(LPloughWills$Will;II)I" } : Jvm.MethodName)) ∈ lw_all := lw_g (lw_at lw_m3 53 rfl) rfl
theorem q609 : (Jvm.Cond.code ({ cls := "PloughWills$Path", name := "many", desc := "(LPloughWills$Will;II)I" } : Jvm.MethodName) prog_9_method_3_code (7 : Nat) (Option.some Jvm.ClassFile.FieldType.int)) ∈ lw_all := lw_g (lw_at lw_m3 54 rfl) rfl
theorem q610 : (Jvm.Cond.methodLink "PloughWills$Path" (28 : Nat) ({ cls := "PloughWills$Will", name := "behind", desc := "(III)I" } : Jvm.MethodName)) ∈ lw_all := lw_g (lw_at lw_m3 55 rfl) rfl
theorem q614 : (Jvm.Cond.methodLink "PloughWills$Path" (32 : Nat) ({ cls := "PloughWills$Path", name := "many", desc := "(LPloughWills$Will;II)I" } : Jvm.MethodName)) ∈ lw_all := lw_g (lw_at lw_m3 59 rfl) rfl
theorem q616 : (Jvm.Cond.instanceMethod ({ cls := "PloughWills$Path", name := "take", desc := "(LPloughWills$Will;I)V" } : Jvm.MethodName)) ∈ lw_all := lw_g (lw_at lw_m3 61 rfl) rfl
theorem q617 : (Jvm.Cond.selects "PloughWills$Path" ({ cls := "PloughWills$Path", name := "take", desc := "(LPloughWills$Will;I)V" } : Jvm.MethodName) ({ cls := "PloughWills$Path", name := "take", desc := "(LPloughWills$Will;I)V" } : Jvm.MethodName)) ∈ lw_all := lw_g (lw_at lw_m3 62 rfl) rfl
theorem q618 : (Jvm.Cond.code ({ cls := "PloughWills$Path", name := "take", desc := "(LPloughWills$Will;I)V" } : Jvm.MethodName) prog_9_method_6_code (4 : Nat) (Option.none : Option Jvm.ClassFile.FieldType)) ∈ lw_all := lw_g (lw_at lw_m3 63 rfl) rfl
theorem q619 : (Jvm.Cond.methodLink "PloughWills$Path" (50 : Nat) ({ cls := "PloughWills$Path", name := "goes", desc := "(LPloughWills$Will;II)V" } : Jvm.MethodName)) ∈ lw_all := lw_g (lw_at lw_m3 64 rfl) rfl
theorem q620 : (Jvm.Cond.privateMethod ({ cls := "PloughWills$Path", name := "goes", desc := "(LPloughWills$Will;II)V" } : Jvm.MethodName)) ∈ lw_tbl := lw_at lw_m3 65 rfl
theorem q621 : (Jvm.Cond.instanceMethod ({ cls := "PloughWills$Path", name := "goes", desc := "(LPloughWills$Will;II)V" } : Jvm.MethodName)) ∈ lw_all := lw_g (lw_at lw_m3 66 rfl) rfl
theorem q622 : (Jvm.Cond.code ({ cls := "PloughWills$Path", name := "goes", desc := "(LPloughWills$Will;II)V" } : Jvm.MethodName) prog_9_method_4_code (10 : Nat) (Option.none : Option Jvm.ClassFile.FieldType)) ∈ lw_all := lw_g (lw_at lw_m3 67 rfl) rfl
theorem q623 : (Jvm.Cond.methodLink "PloughWills$Path" (36 : Nat) ({ cls := "PloughWills$Path", name := "by", desc := "(IZ)V" } : Jvm.MethodName)) ∈ lw_all := lw_g (lw_at lw_m3 68 rfl) rfl
theorem q624 : (Jvm.Cond.privateMethod ({ cls := "PloughWills$Path", name := "by", desc := "(IZ)V" } : Jvm.MethodName)) ∈ lw_tbl := lw_at lw_m3 69 rfl
theorem q625 : (Jvm.Cond.instanceMethod ({ cls := "PloughWills$Path", name := "by", desc := "(IZ)V" } : Jvm.MethodName)) ∈ lw_all := lw_g (lw_at lw_m3 70 rfl) rfl
theorem q626 : (Jvm.Cond.code ({ cls := "PloughWills$Path", name := "by", desc := "(IZ)V" } : Jvm.MethodName) prog_9_method_2_code (3 : Nat) (Option.none : Option Jvm.ClassFile.FieldType)) ∈ lw_all := lw_g (lw_at lw_m3 71 rfl) rfl
theorem q627 : (Jvm.Cond.methodLink "PloughWills$Path" (46 : Nat) ({ cls := "PloughWills$Path", name := "goesWithin", desc := "(LPloughWills$Will;III)V" } : Jvm.MethodName)) ∈ lw_all := lw_g (lw_at lw_m3 72 rfl) rfl
theorem q628 : (Jvm.Cond.privateMethod ({ cls := "PloughWills$Path", name := "goesWithin", desc := "(LPloughWills$Will;III)V" } : Jvm.MethodName)) ∈ lw_tbl := lw_at lw_m3 73 rfl
theorem q629 : (Jvm.Cond.instanceMethod ({ cls := "PloughWills$Path", name := "goesWithin", desc := "(LPloughWills$Will;III)V" } : Jvm.MethodName)) ∈ lw_all := lw_g (lw_at lw_m3 74 rfl) rfl
theorem q630 : (Jvm.Cond.code ({ cls := "PloughWills$Path", name := "goesWithin", desc := "(LPloughWills$Will;III)V" } : Jvm.MethodName) prog_9_method_5_code (7 : Nat) (Option.none : Option Jvm.ClassFile.FieldType)) ∈ lw_all := lw_g (lw_at lw_m3 75 rfl) rfl
theorem q1073 : (Jvm.Cond.instanceMethod ({ cls := "PloughWills$Path", name := "worth", desc := "(LPloughWills$Will;)I" } : Jvm.MethodName)) ∈ lw_all := lw_g (lw_at lw_m5 38 rfl) rfl
theorem q1074 : (Jvm.Cond.selects "PloughWills$Path" ({ cls := "PloughWills$Path", name := "worth", desc := "(LPloughWills$Will;)I" } : Jvm.MethodName) ({ cls := "PloughWills$Path", name := "worth", desc := "(LPloughWills$Will;)I" } : Jvm.MethodName)) ∈ lw_all := lw_g (lw_at lw_m5 39 rfl) rfl
theorem q1075 : (Jvm.Cond.code ({ cls := "PloughWills$Path", name := "worth", desc := "(LPloughWills$Will;)I" } : Jvm.MethodName) prog_9_method_7_code (4 : Nat) (Option.some Jvm.ClassFile.FieldType.int)) ∈ lw_all := lw_g (lw_at lw_m5 40 rfl) rfl
theorem q1076 : (Jvm.Cond.methodLink "PloughWills$Path" (57 : Nat) ({ cls := "PloughWills$Will", name := "worthOf", desc := "(I)I" } : Jvm.MethodName)) ∈ lw_all := lw_g (lw_at lw_m5 41 rfl) rfl
theorem q1491 : (Jvm.Cond.instanceMethod ({ cls := "PloughWills$Path", name := "tithes", desc := "(LPloughWills$Will;)F" } : Jvm.MethodName)) ∈ lw_all := lw_g (lw_at lw_m6 216 rfl) rfl
theorem q1492 : (Jvm.Cond.selects "PloughWills$Path" ({ cls := "PloughWills$Path", name := "tithes", desc := "(LPloughWills$Will;)F" } : Jvm.MethodName) ({ cls := "PloughWills$Path", name := "tithes", desc := "(LPloughWills$Will;)F" } : Jvm.MethodName)) ∈ lw_all := lw_g (lw_at lw_m6 217 rfl) rfl
theorem q1493 : (Jvm.Cond.code ({ cls := "PloughWills$Path", name := "tithes", desc := "(LPloughWills$Will;)F" } : Jvm.MethodName) prog_9_method_8_code (4 : Nat) (Option.some Jvm.ClassFile.FieldType.float)) ∈ lw_all := lw_g (lw_at lw_m6 218 rfl) rfl
theorem q1494 : (Jvm.Cond.methodLink "PloughWills$Path" (61 : Nat) ({ cls := "PloughWills$Will", name := "titheOf", desc := "(I)F" } : Jvm.MethodName)) ∈ lw_all := lw_g (lw_at lw_m6 219 rfl) rfl
theorem q2180 : (Jvm.Cond.castable "PloughWills$Path" "java/lang/Object") ∈ lw_tbl := lw_at lw_m9 185 rfl
theorem in_X5 : ∀ w ∈ wsX50, w ∈ lw_all := lw_in wsX50 [311, 313, 315, 317, 319] (by decide +kernel) (by decide +kernel)
/-! PloughWills$Nesting -/
set_option maxRecDepth 100000
def RX6 : String := "PloughWills$Nesting"
def TX6 : u_T := fun k => match k with
  | 0 => ("PloughWills$Nesting", "depths", "[I", true)
  | 1 => ("PloughWills$Nesting", "ends", "[I", true)
  | 2 => ("PloughWills$Nesting", "isRight", "Z", false)
  | _ => ("PloughWills$Nesting", "deepest", "I", false)
def tyX6 : Nat → FieldType := fun k => match k with
  | 0 => .array .int
  | 1 => .array .int
  | 2 => .boolean
  | _ => .int
abbrev wsX60 : List Cond := u_ws RX6 TX6 4
theorem nmX6 : ∀ a, a < 4 → ∀ b, b < 4 → a ≠ b → (TX6 a).2.1 ≠ (TX6 b).2.1 := by decide +kernel
theorem tyX6_ok : ∀ k, k < 4 → parseFieldDescriptor (TX6 k).2.2.1 = some (tyX6 k) := by decide +kernel
abbrev cX6_init : ByteArray := prog_8_method_1_code
def yX6_init : MethodName := ⟨RX6, "<init>", "()V"⟩
def dkwX6_init_0 : List UInt8 := [42, 183, 0, 3, 42, 16, 24, 188, 10, 181, 0, 9, 42, 16, 25, 188, 10, 181, 0, 15, 177]
abbrev dktX6_init_0 : List UInt8 := dkwX6_init_0 ++ []
theorem dksX6_init_0 : cX6_init.data.toList.drop 0 = dktX6_init_0 := by decide +kernel
theorem dX6_init_0 : decode cX6_init 0 = .ok (.aload_n 0, 1) := dk_42 (dk_at dksX6_init_0 0 rfl rfl)
theorem dX6_init_1 : decode cX6_init 1 = .ok (.invokespecial 3, 3) := dk_183 0 3 (dk_at dksX6_init_0 1 rfl rfl)
theorem dX6_init_4 : decode cX6_init 4 = .ok (.aload_n 0, 1) := dk_42 (dk_at dksX6_init_0 4 rfl rfl)
theorem dX6_init_5 : decode cX6_init 5 = .ok (.bipush 24, 2) := dk_16 24 (dk_at dksX6_init_0 5 rfl rfl)
theorem dX6_init_7 : decode cX6_init 7 = .ok (.newarray .int, 2) := dk_188_10 (dk_at dksX6_init_0 7 rfl rfl)
theorem dX6_init_9 : decode cX6_init 9 = .ok (.putfield 9, 3) := dk_181 0 9 (dk_at dksX6_init_0 9 rfl rfl)
theorem dX6_init_12 : decode cX6_init 12 = .ok (.aload_n 0, 1) := dk_42 (dk_at dksX6_init_0 12 rfl rfl)
theorem dX6_init_13 : decode cX6_init 13 = .ok (.bipush 25, 2) := dk_16 25 (dk_at dksX6_init_0 13 rfl rfl)
theorem dX6_init_15 : decode cX6_init 15 = .ok (.newarray .int, 2) := dk_188_10 (dk_at dksX6_init_0 15 rfl rfl)
theorem dX6_init_17 : decode cX6_init 17 = .ok (.putfield 15, 3) := dk_181 0 15 (dk_at dksX6_init_0 17 rfl rfl)
theorem dX6_init_20 : decode cX6_init 20 = .ok (.return_, 1) := dk_177 (dk_at dksX6_init_0 20 rfl rfl)
abbrev cX6_take : ByteArray := prog_8_method_2_code
def yX6_take : MethodName := ⟨RX6, "take", "(LPloughWills$Will;)V"⟩
def dkwX6_take_8 : List UInt8 := [167, 255, 84, 42, 89, 180, 0, 18, 28, 154, 0, 7, 4, 167, 0, 4, 3, 126, 181, 0, 18, 177]
abbrev dktX6_take_8 : List UInt8 := dkwX6_take_8 ++ []
def dkwX6_take_7 : List UInt8 := [16, 8, 167, 0, 5, 16, 9, 79, 42, 42, 180, 0, 22, 28, 184, 0, 34, 181, 0, 22, 132, 3, 1]
abbrev dktX6_take_7 : List UInt8 := dkwX6_take_7 ++ dktX6_take_8
def dkwX6_take_6 : List UInt8 := [132, 2, 1, 42, 180, 0, 15, 28, 21, 4, 154, 0, 7, 4, 167, 0, 17, 21, 4, 16, 7, 160, 0, 8]
abbrev dktX6_take_6 : List UInt8 := dkwX6_take_6 ++ dktX6_take_7
def dkwX6_take_5 : List UInt8 := [153, 0, 54, 21, 4, 153, 0, 17, 21, 4, 16, 7, 159, 0, 10, 21, 4, 16, 8, 160, 0, 35]
abbrev dktX6_take_5 : List UInt8 := dkwX6_take_5 ++ dktX6_take_6
def dkwX6_take_4 : List UInt8 := [21, 5, 153, 0, 7, 4, 167, 0, 4, 3, 100, 61, 42, 180, 0, 9, 29, 28, 79, 42, 180, 0, 18]
abbrev dktX6_take_4 : List UInt8 := dkwX6_take_4 ++ dktX6_take_5
def dkwX6_take_3 : List UInt8 := [158, 0, 18, 42, 180, 0, 15, 28, 46, 21, 4, 160, 0, 7, 4, 167, 0, 4, 3, 181, 0, 18, 28]
abbrev dktX6_take_3 : List UInt8 := dkwX6_take_3 ++ dktX6_take_4
def dkwX6_take_2 : List UInt8 := [159, 0, 10, 21, 4, 16, 9, 160, 0, 7, 4, 167, 0, 4, 3, 54, 5, 42, 21, 5, 153, 0, 18, 28]
abbrev dktX6_take_2 : List UInt8 := dkwX6_take_2 ++ dktX6_take_3
def dkwX6_take_1 : List UInt8 := [180, 0, 18, 153, 0, 163, 43, 180, 0, 31, 29, 46, 54, 4, 21, 4, 4, 159, 0, 17, 21, 4, 16, 8]
abbrev dktX6_take_1 : List UInt8 := dkwX6_take_1 ++ dktX6_take_2
def dkwX6_take_0 : List UInt8 := [3, 61, 42, 4, 181, 0, 18, 42, 3, 181, 0, 22, 3, 62, 29, 43, 180, 0, 26, 162, 0, 170, 42]
abbrev dktX6_take_0 : List UInt8 := dkwX6_take_0 ++ dktX6_take_1
theorem dksX6_take_0 : cX6_take.data.toList.drop 0 = dktX6_take_0 := by decide +kernel
theorem dksX6_take_1 : cX6_take.data.toList.drop 23 = dktX6_take_1 := dk_seg dksX6_take_0 23 rfl rfl
theorem dksX6_take_2 : cX6_take.data.toList.drop 47 = dktX6_take_2 := dk_seg dksX6_take_1 24 rfl rfl
theorem dksX6_take_3 : cX6_take.data.toList.drop 71 = dktX6_take_3 := dk_seg dksX6_take_2 24 rfl rfl
theorem dksX6_take_4 : cX6_take.data.toList.drop 94 = dktX6_take_4 := dk_seg dksX6_take_3 23 rfl rfl
theorem dksX6_take_5 : cX6_take.data.toList.drop 117 = dktX6_take_5 := dk_seg dksX6_take_4 23 rfl rfl
theorem dksX6_take_6 : cX6_take.data.toList.drop 139 = dktX6_take_6 := dk_seg dksX6_take_5 22 rfl rfl
theorem dksX6_take_7 : cX6_take.data.toList.drop 163 = dktX6_take_7 := dk_seg dksX6_take_6 24 rfl rfl
theorem dksX6_take_8 : cX6_take.data.toList.drop 186 = dktX6_take_8 := dk_seg dksX6_take_7 23 rfl rfl
theorem dX6_take_0 : decode cX6_take 0 = .ok (.iconst 0, 1) := dk_3 (dk_at dksX6_take_0 0 rfl rfl)
theorem dX6_take_1 : decode cX6_take 1 = .ok (.istore_n 2, 1) := dk_61 (dk_at dksX6_take_0 1 rfl rfl)
theorem dX6_take_2 : decode cX6_take 2 = .ok (.aload_n 0, 1) := dk_42 (dk_at dksX6_take_0 2 rfl rfl)
theorem dX6_take_3 : decode cX6_take 3 = .ok (.iconst 1, 1) := dk_4 (dk_at dksX6_take_0 3 rfl rfl)
theorem dX6_take_4 : decode cX6_take 4 = .ok (.putfield 18, 3) := dk_181 0 18 (dk_at dksX6_take_0 4 rfl rfl)
theorem dX6_take_7 : decode cX6_take 7 = .ok (.aload_n 0, 1) := dk_42 (dk_at dksX6_take_0 7 rfl rfl)
theorem dX6_take_8 : decode cX6_take 8 = .ok (.iconst 0, 1) := dk_3 (dk_at dksX6_take_0 8 rfl rfl)
theorem dX6_take_9 : decode cX6_take 9 = .ok (.putfield 22, 3) := dk_181 0 22 (dk_at dksX6_take_0 9 rfl rfl)
theorem dX6_take_12 : decode cX6_take 12 = .ok (.iconst 0, 1) := dk_3 (dk_at dksX6_take_0 12 rfl rfl)
theorem dX6_take_13 : decode cX6_take 13 = .ok (.istore_n 3, 1) := dk_62 (dk_at dksX6_take_0 13 rfl rfl)
theorem dX6_take_14 : decode cX6_take 14 = .ok (.iload_n 3, 1) := dk_29 (dk_at dksX6_take_0 14 rfl rfl)
theorem dX6_take_15 : decode cX6_take 15 = .ok (.aload_n 1, 1) := dk_43 (dk_at dksX6_take_0 15 rfl rfl)
theorem dX6_take_16 : decode cX6_take 16 = .ok (.getfield 26, 3) := dk_180 0 26 (dk_at dksX6_take_0 16 rfl rfl)
theorem dX6_take_19 : decode cX6_take 19 = .ok (.if_icmp .ge 170, 3) := dk_162 0 170 (dk_at dksX6_take_0 19 rfl rfl)
theorem dX6_take_22 : decode cX6_take 22 = .ok (.aload_n 0, 1) := dk_42 (dk_at dksX6_take_0 22 rfl rfl)
theorem dX6_take_23 : decode cX6_take 23 = .ok (.getfield 18, 3) := dk_180 0 18 (dk_at dksX6_take_1 0 rfl rfl)
theorem dX6_take_26 : decode cX6_take 26 = .ok (.ifCond .eq 163, 3) := dk_153 0 163 (dk_at dksX6_take_1 3 rfl rfl)
theorem dX6_take_29 : decode cX6_take 29 = .ok (.aload_n 1, 1) := dk_43 (dk_at dksX6_take_1 6 rfl rfl)
theorem dX6_take_30 : decode cX6_take 30 = .ok (.getfield 31, 3) := dk_180 0 31 (dk_at dksX6_take_1 7 rfl rfl)
theorem dX6_take_33 : decode cX6_take 33 = .ok (.iload_n 3, 1) := dk_29 (dk_at dksX6_take_1 10 rfl rfl)
theorem dX6_take_34 : decode cX6_take 34 = .ok (.iaload, 1) := dk_46 (dk_at dksX6_take_1 11 rfl rfl)
theorem dX6_take_35 : decode cX6_take 35 = .ok (.istore 4, 2) := dk_54 4 (dk_at dksX6_take_1 12 rfl rfl)
theorem dX6_take_37 : decode cX6_take 37 = .ok (.iload 4, 2) := dk_21 4 (dk_at dksX6_take_1 14 rfl rfl)
theorem dX6_take_39 : decode cX6_take 39 = .ok (.iconst 1, 1) := dk_4 (dk_at dksX6_take_1 16 rfl rfl)
theorem dX6_take_40 : decode cX6_take 40 = .ok (.if_icmp .eq 17, 3) := dk_159 0 17 (dk_at dksX6_take_1 17 rfl rfl)
theorem dX6_take_43 : decode cX6_take 43 = .ok (.iload 4, 2) := dk_21 4 (dk_at dksX6_take_1 20 rfl rfl)
theorem dX6_take_45 : decode cX6_take 45 = .ok (.bipush 8, 2) := dk_16 8 (dk_at dksX6_take_1 22 rfl rfl)
theorem dX6_take_47 : decode cX6_take 47 = .ok (.if_icmp .eq 10, 3) := dk_159 0 10 (dk_at dksX6_take_2 0 rfl rfl)
theorem dX6_take_50 : decode cX6_take 50 = .ok (.iload 4, 2) := dk_21 4 (dk_at dksX6_take_2 3 rfl rfl)
theorem dX6_take_52 : decode cX6_take 52 = .ok (.bipush 9, 2) := dk_16 9 (dk_at dksX6_take_2 5 rfl rfl)
theorem dX6_take_54 : decode cX6_take 54 = .ok (.if_icmp .ne 7, 3) := dk_160 0 7 (dk_at dksX6_take_2 7 rfl rfl)
theorem dX6_take_57 : decode cX6_take 57 = .ok (.iconst 1, 1) := dk_4 (dk_at dksX6_take_2 10 rfl rfl)
theorem dX6_take_58 : decode cX6_take 58 = .ok (.goto 4, 3) := dk_167 0 4 (dk_at dksX6_take_2 11 rfl rfl)
theorem dX6_take_61 : decode cX6_take 61 = .ok (.iconst 0, 1) := dk_3 (dk_at dksX6_take_2 14 rfl rfl)
theorem dX6_take_62 : decode cX6_take 62 = .ok (.istore 5, 2) := dk_54 5 (dk_at dksX6_take_2 15 rfl rfl)
theorem dX6_take_64 : decode cX6_take 64 = .ok (.aload_n 0, 1) := dk_42 (dk_at dksX6_take_2 17 rfl rfl)
theorem dX6_take_65 : decode cX6_take 65 = .ok (.iload 5, 2) := dk_21 5 (dk_at dksX6_take_2 18 rfl rfl)
theorem dX6_take_67 : decode cX6_take 67 = .ok (.ifCond .eq 18, 3) := dk_153 0 18 (dk_at dksX6_take_2 20 rfl rfl)
theorem dX6_take_70 : decode cX6_take 70 = .ok (.iload_n 2, 1) := dk_28 (dk_at dksX6_take_2 23 rfl rfl)
theorem dX6_take_71 : decode cX6_take 71 = .ok (.ifCond .le 18, 3) := dk_158 0 18 (dk_at dksX6_take_3 0 rfl rfl)
theorem dX6_take_74 : decode cX6_take 74 = .ok (.aload_n 0, 1) := dk_42 (dk_at dksX6_take_3 3 rfl rfl)
theorem dX6_take_75 : decode cX6_take 75 = .ok (.getfield 15, 3) := dk_180 0 15 (dk_at dksX6_take_3 4 rfl rfl)
theorem dX6_take_78 : decode cX6_take 78 = .ok (.iload_n 2, 1) := dk_28 (dk_at dksX6_take_3 7 rfl rfl)
theorem dX6_take_79 : decode cX6_take 79 = .ok (.iaload, 1) := dk_46 (dk_at dksX6_take_3 8 rfl rfl)
theorem dX6_take_80 : decode cX6_take 80 = .ok (.iload 4, 2) := dk_21 4 (dk_at dksX6_take_3 9 rfl rfl)
theorem dX6_take_82 : decode cX6_take 82 = .ok (.if_icmp .ne 7, 3) := dk_160 0 7 (dk_at dksX6_take_3 11 rfl rfl)
theorem dX6_take_85 : decode cX6_take 85 = .ok (.iconst 1, 1) := dk_4 (dk_at dksX6_take_3 14 rfl rfl)
theorem dX6_take_86 : decode cX6_take 86 = .ok (.goto 4, 3) := dk_167 0 4 (dk_at dksX6_take_3 15 rfl rfl)
theorem dX6_take_89 : decode cX6_take 89 = .ok (.iconst 0, 1) := dk_3 (dk_at dksX6_take_3 18 rfl rfl)
theorem dX6_take_90 : decode cX6_take 90 = .ok (.putfield 18, 3) := dk_181 0 18 (dk_at dksX6_take_3 19 rfl rfl)
theorem dX6_take_93 : decode cX6_take 93 = .ok (.iload_n 2, 1) := dk_28 (dk_at dksX6_take_3 22 rfl rfl)
theorem dX6_take_94 : decode cX6_take 94 = .ok (.iload 5, 2) := dk_21 5 (dk_at dksX6_take_4 0 rfl rfl)
theorem dX6_take_96 : decode cX6_take 96 = .ok (.ifCond .eq 7, 3) := dk_153 0 7 (dk_at dksX6_take_4 2 rfl rfl)
theorem dX6_take_99 : decode cX6_take 99 = .ok (.iconst 1, 1) := dk_4 (dk_at dksX6_take_4 5 rfl rfl)
theorem dX6_take_100 : decode cX6_take 100 = .ok (.goto 4, 3) := dk_167 0 4 (dk_at dksX6_take_4 6 rfl rfl)
theorem dX6_take_103 : decode cX6_take 103 = .ok (.iconst 0, 1) := dk_3 (dk_at dksX6_take_4 9 rfl rfl)
theorem dX6_take_104 : decode cX6_take 104 = .ok (.isub, 1) := dk_100 (dk_at dksX6_take_4 10 rfl rfl)
theorem dX6_take_105 : decode cX6_take 105 = .ok (.istore_n 2, 1) := dk_61 (dk_at dksX6_take_4 11 rfl rfl)
theorem dX6_take_106 : decode cX6_take 106 = .ok (.aload_n 0, 1) := dk_42 (dk_at dksX6_take_4 12 rfl rfl)
theorem dX6_take_107 : decode cX6_take 107 = .ok (.getfield 9, 3) := dk_180 0 9 (dk_at dksX6_take_4 13 rfl rfl)
theorem dX6_take_110 : decode cX6_take 110 = .ok (.iload_n 3, 1) := dk_29 (dk_at dksX6_take_4 16 rfl rfl)
theorem dX6_take_111 : decode cX6_take 111 = .ok (.iload_n 2, 1) := dk_28 (dk_at dksX6_take_4 17 rfl rfl)
theorem dX6_take_112 : decode cX6_take 112 = .ok (.iastore, 1) := dk_79 (dk_at dksX6_take_4 18 rfl rfl)
theorem dX6_take_113 : decode cX6_take 113 = .ok (.aload_n 0, 1) := dk_42 (dk_at dksX6_take_4 19 rfl rfl)
theorem dX6_take_114 : decode cX6_take 114 = .ok (.getfield 18, 3) := dk_180 0 18 (dk_at dksX6_take_4 20 rfl rfl)
theorem dX6_take_117 : decode cX6_take 117 = .ok (.ifCond .eq 54, 3) := dk_153 0 54 (dk_at dksX6_take_5 0 rfl rfl)
theorem dX6_take_120 : decode cX6_take 120 = .ok (.iload 4, 2) := dk_21 4 (dk_at dksX6_take_5 3 rfl rfl)
theorem dX6_take_122 : decode cX6_take 122 = .ok (.ifCond .eq 17, 3) := dk_153 0 17 (dk_at dksX6_take_5 5 rfl rfl)
theorem dX6_take_125 : decode cX6_take 125 = .ok (.iload 4, 2) := dk_21 4 (dk_at dksX6_take_5 8 rfl rfl)
theorem dX6_take_127 : decode cX6_take 127 = .ok (.bipush 7, 2) := dk_16 7 (dk_at dksX6_take_5 10 rfl rfl)
theorem dX6_take_129 : decode cX6_take 129 = .ok (.if_icmp .eq 10, 3) := dk_159 0 10 (dk_at dksX6_take_5 12 rfl rfl)
theorem dX6_take_132 : decode cX6_take 132 = .ok (.iload 4, 2) := dk_21 4 (dk_at dksX6_take_5 15 rfl rfl)
theorem dX6_take_134 : decode cX6_take 134 = .ok (.bipush 8, 2) := dk_16 8 (dk_at dksX6_take_5 17 rfl rfl)
theorem dX6_take_136 : decode cX6_take 136 = .ok (.if_icmp .ne 35, 3) := dk_160 0 35 (dk_at dksX6_take_5 19 rfl rfl)
theorem dX6_take_139 : decode cX6_take 139 = .ok (.iinc 2 1, 3) := dk_132 2 1 (dk_at dksX6_take_6 0 rfl rfl)
theorem dX6_take_142 : decode cX6_take 142 = .ok (.aload_n 0, 1) := dk_42 (dk_at dksX6_take_6 3 rfl rfl)
theorem dX6_take_143 : decode cX6_take 143 = .ok (.getfield 15, 3) := dk_180 0 15 (dk_at dksX6_take_6 4 rfl rfl)
theorem dX6_take_146 : decode cX6_take 146 = .ok (.iload_n 2, 1) := dk_28 (dk_at dksX6_take_6 7 rfl rfl)
theorem dX6_take_147 : decode cX6_take 147 = .ok (.iload 4, 2) := dk_21 4 (dk_at dksX6_take_6 8 rfl rfl)
theorem dX6_take_149 : decode cX6_take 149 = .ok (.ifCond .ne 7, 3) := dk_154 0 7 (dk_at dksX6_take_6 10 rfl rfl)
theorem dX6_take_152 : decode cX6_take 152 = .ok (.iconst 1, 1) := dk_4 (dk_at dksX6_take_6 13 rfl rfl)
theorem dX6_take_153 : decode cX6_take 153 = .ok (.goto 17, 3) := dk_167 0 17 (dk_at dksX6_take_6 14 rfl rfl)
theorem dX6_take_156 : decode cX6_take 156 = .ok (.iload 4, 2) := dk_21 4 (dk_at dksX6_take_6 17 rfl rfl)
theorem dX6_take_158 : decode cX6_take 158 = .ok (.bipush 7, 2) := dk_16 7 (dk_at dksX6_take_6 19 rfl rfl)
theorem dX6_take_160 : decode cX6_take 160 = .ok (.if_icmp .ne 8, 3) := dk_160 0 8 (dk_at dksX6_take_6 21 rfl rfl)
theorem dX6_take_163 : decode cX6_take 163 = .ok (.bipush 8, 2) := dk_16 8 (dk_at dksX6_take_7 0 rfl rfl)
theorem dX6_take_165 : decode cX6_take 165 = .ok (.goto 5, 3) := dk_167 0 5 (dk_at dksX6_take_7 2 rfl rfl)
theorem dX6_take_168 : decode cX6_take 168 = .ok (.bipush 9, 2) := dk_16 9 (dk_at dksX6_take_7 5 rfl rfl)
theorem dX6_take_170 : decode cX6_take 170 = .ok (.iastore, 1) := dk_79 (dk_at dksX6_take_7 7 rfl rfl)
theorem dX6_take_171 : decode cX6_take 171 = .ok (.aload_n 0, 1) := dk_42 (dk_at dksX6_take_7 8 rfl rfl)
theorem dX6_take_172 : decode cX6_take 172 = .ok (.aload_n 0, 1) := dk_42 (dk_at dksX6_take_7 9 rfl rfl)
theorem dX6_take_173 : decode cX6_take 173 = .ok (.getfield 22, 3) := dk_180 0 22 (dk_at dksX6_take_7 10 rfl rfl)
theorem dX6_take_176 : decode cX6_take 176 = .ok (.iload_n 2, 1) := dk_28 (dk_at dksX6_take_7 13 rfl rfl)
theorem dX6_take_177 : decode cX6_take 177 = .ok (.invokestatic 34, 3) := dk_184 0 34 (dk_at dksX6_take_7 14 rfl rfl)
theorem dX6_take_180 : decode cX6_take 180 = .ok (.putfield 22, 3) := dk_181 0 22 (dk_at dksX6_take_7 17 rfl rfl)
theorem dX6_take_183 : decode cX6_take 183 = .ok (.iinc 3 1, 3) := dk_132 3 1 (dk_at dksX6_take_7 20 rfl rfl)
theorem dX6_take_186 : decode cX6_take 186 = .ok (.goto (-172), 3) := dk_167 255 84 (dk_at dksX6_take_8 0 rfl rfl)
theorem dX6_take_189 : decode cX6_take 189 = .ok (.aload_n 0, 1) := dk_42 (dk_at dksX6_take_8 3 rfl rfl)
theorem dX6_take_190 : decode cX6_take 190 = .ok (.dup, 1) := dk_89 (dk_at dksX6_take_8 4 rfl rfl)
theorem dX6_take_191 : decode cX6_take 191 = .ok (.getfield 18, 3) := dk_180 0 18 (dk_at dksX6_take_8 5 rfl rfl)
theorem dX6_take_194 : decode cX6_take 194 = .ok (.iload_n 2, 1) := dk_28 (dk_at dksX6_take_8 8 rfl rfl)
theorem dX6_take_195 : decode cX6_take 195 = .ok (.ifCond .ne 7, 3) := dk_154 0 7 (dk_at dksX6_take_8 9 rfl rfl)
theorem dX6_take_198 : decode cX6_take 198 = .ok (.iconst 1, 1) := dk_4 (dk_at dksX6_take_8 12 rfl rfl)
theorem dX6_take_199 : decode cX6_take 199 = .ok (.goto 4, 3) := dk_167 0 4 (dk_at dksX6_take_8 13 rfl rfl)
theorem dX6_take_202 : decode cX6_take 202 = .ok (.iconst 0, 1) := dk_3 (dk_at dksX6_take_8 16 rfl rfl)
theorem dX6_take_203 : decode cX6_take 203 = .ok (.iand, 1) := dk_126 (dk_at dksX6_take_8 17 rfl rfl)
theorem dX6_take_204 : decode cX6_take 204 = .ok (.putfield 18, 3) := dk_181 0 18 (dk_at dksX6_take_8 18 rfl rfl)
theorem dX6_take_207 : decode cX6_take 207 = .ok (.return_, 1) := dk_177 (dk_at dksX6_take_8 21 rfl rfl)
theorem q83 : (Jvm.Cond.initialized "PloughWills$Nesting") ∈ lw_all := lw_g (lw_at lw_m1 8 rfl) rfl
theorem q154 : (Jvm.Cond.fieldLinkNest "PloughWills$Nesting" (31 : Nat) "PloughWills$Will" "sorts" "[I" "PloughWills") ∈ lw_tbl := lw_at lw_m1 79 rfl
theorem q167 : (Jvm.Cond.fieldLinkNest "PloughWills$Nesting" (26 : Nat) "PloughWills$Will" "size" "I" "PloughWills") ∈ lw_tbl := lw_at lw_m1 92 rfl
theorem q323 : (Jvm.Cond.instantiable "PloughWills$Nesting" (4 : Nat)) ∈ lw_all := lw_g (lw_at lw_m2 8 rfl) rfl
theorem q325 : (Jvm.Cond.instanceMethod ({ cls := "PloughWills$Nesting", name := "<init>", desc := "()V" } : Jvm.MethodName)) ∈ lw_all := lw_g (lw_at lw_m2 10 rfl) rfl
theorem q326 : (Jvm.Cond.code ({ cls := "PloughWills$Nesting", name := "<init>", desc := "()V" } : Jvm.MethodName) prog_8_method_1_code (1 : Nat) (Option.none : Option Jvm.ClassFile.FieldType)) ∈ lw_all := lw_g (lw_at lw_m2 11 rfl) rfl
theorem q327 : (Jvm.Cond.methodLink "PloughWills$Nesting" (3 : Nat) ({ cls := "java/lang/Object", name := "<init>", desc := "()V" } : Jvm.MethodName)) ∈ lw_all := lw_g (lw_at lw_m2 12 rfl) rfl
theorem q328 : (Jvm.Cond.fieldLink "PloughWills$Nesting" (9 : Nat) "PloughWills$Nesting" "depths" "[I") ∈ lw_all := lw_g (lw_at lw_m2 13 rfl) rfl
theorem q330 : (Jvm.Cond.fieldLink "PloughWills$Nesting" (15 : Nat) "PloughWills$Nesting" "ends" "[I") ∈ lw_all := lw_g (lw_at lw_m2 15 rfl) rfl
theorem q331 : (Jvm.Cond.fieldLink "PloughWills$Nesting" (18 : Nat) "PloughWills$Nesting" "isRight" "Z") ∈ lw_all := lw_g (lw_at lw_m2 16 rfl) rfl
theorem q333 : (Jvm.Cond.fieldLink "PloughWills$Nesting" (22 : Nat) "PloughWills$Nesting" "deepest" "I") ∈ lw_all := lw_g (lw_at lw_m2 18 rfl) rfl
theorem q335 : (Jvm.Cond.laysFinal "PloughWills$Nesting" "PloughWills$Nesting" "depths" "[I") ∈ lw_all := lw_g (lw_at lw_m2 20 rfl) rfl
theorem q336 : (Jvm.Cond.soleField "PloughWills$Nesting" "depths") ∈ lw_all := lw_g (lw_at lw_m2 21 rfl) rfl
theorem q337 : (Jvm.Cond.laysFinal "PloughWills$Nesting" "PloughWills$Nesting" "ends" "[I") ∈ lw_all := lw_g (lw_at lw_m2 22 rfl) rfl
theorem q338 : (Jvm.Cond.soleField "PloughWills$Nesting" "ends") ∈ lw_all := lw_g (lw_at lw_m2 23 rfl) rfl
theorem q339 : (Jvm.Cond.lays "PloughWills$Nesting" "PloughWills$Nesting" "isRight" "Z") ∈ lw_all := lw_g (lw_at lw_m2 24 rfl) rfl
theorem q340 : (Jvm.Cond.soleField "PloughWills$Nesting" "isRight") ∈ lw_all := lw_g (lw_at lw_m2 25 rfl) rfl
theorem q341 : (Jvm.Cond.lays "PloughWills$Nesting" "PloughWills$Nesting" "deepest" "I") ∈ lw_all := lw_g (lw_at lw_m2 26 rfl) rfl
theorem q342 : (Jvm.Cond.soleField "PloughWills$Nesting" "deepest") ∈ lw_all := lw_g (lw_at lw_m2 27 rfl) rfl
theorem q343 : (Jvm.Cond.superclass "PloughWills$Nesting" "java/lang/Object") ∈ lw_all := lw_g (lw_at lw_m2 28 rfl) rfl
theorem q510 : (Jvm.Cond.selects "PloughWills$Nesting" ({ cls := "java/lang/Object", name := "getClass", desc := "()Ljava/lang/Class;" } : Jvm.MethodName) ({ cls := "java/lang/Object", name := "getClass", desc := "()Ljava/lang/Class;" } : Jvm.MethodName)) ∈ lw_all := lw_g (lw_at lw_m2 195 rfl) rfl
theorem q601 : (Jvm.Cond.instanceMethod ({ cls := "PloughWills$Nesting", name := "take", desc := "(LPloughWills$Will;)V" } : Jvm.MethodName)) ∈ lw_all := lw_g (lw_at lw_m3 46 rfl) rfl
theorem q602 : (Jvm.Cond.selects "PloughWills$Nesting" ({ cls := "PloughWills$Nesting", name := "take", desc := "(LPloughWills$Will;)V" } : Jvm.MethodName) ({ cls := "PloughWills$Nesting", name := "take", desc := "(LPloughWills$Will;)V" } : Jvm.MethodName)) ∈ lw_all := lw_g (lw_at lw_m3 47 rfl) rfl
theorem q603 : (Jvm.Cond.code ({ cls := "PloughWills$Nesting", name := "take", desc := "(LPloughWills$Will;)V" } : Jvm.MethodName) prog_8_method_2_code (6 : Nat) (Option.none : Option Jvm.ClassFile.FieldType)) ∈ lw_all := lw_g (lw_at lw_m3 48 rfl) rfl
theorem q604 : (Jvm.Cond.methodLink "PloughWills$Nesting" (34 : Nat) ({ cls := "java/lang/Math", name := "max", desc := "(II)I" } : Jvm.MethodName)) ∈ lw_all := lw_g (lw_at lw_m3 49 rfl) rfl
theorem q2181 : (Jvm.Cond.castable "PloughWills$Nesting" "java/lang/Object") ∈ lw_tbl := lw_at lw_m9 186 rfl
theorem in_X6 : ∀ w ∈ wsX60, w ∈ lw_all := lw_in wsX60 [335, 337, 339, 341] (by decide +kernel) (by decide +kernel)
/-! PloughWills$Reader -/
set_option maxRecDepth 100000
def RX7 : String := "PloughWills$Reader"
def TX7 : u_T := fun k => match k with
  | 0 => ("PloughWills$Reader", "text", "Ljava/lang/StringBuilder;", true)
  | 1 => ("PloughWills$Reader", "at", "I", false)
  | 2 => ("PloughWills$Reader", "many", "I", false)
  | 3 => ("PloughWills$Reader", "sorts", "[I", true)
  | 4 => ("PloughWills$Reader", "ones", "[I", true)
  | _ => ("PloughWills$Reader", "others", "[I", true)
def tyX7 : Nat → FieldType := fun k => match k with
  | 0 => .object "java/lang/StringBuilder"
  | 1 => .int
  | 2 => .int
  | 3 => .array .int
  | 4 => .array .int
  | _ => .array .int
abbrev wsX70 : List Cond := u_ws RX7 TX7 6
theorem nmX7 : ∀ a, a < 6 → ∀ b, b < 6 → a ≠ b → (TX7 a).2.1 ≠ (TX7 b).2.1 := by decide +kernel
theorem tyX7_ok : ∀ k, k < 6 → parseFieldDescriptor (TX7 k).2.2.1 = some (tyX7 k) := by decide +kernel
abbrev cX7_init : ByteArray := prog_10_method_1_code
def yX7_init : MethodName := ⟨RX7, "<init>", "(Ljava/lang/StringBuilder;)V"⟩
def dkwX7_init_1 : List UInt8 := [188, 10, 181, 0, 18, 42, 43, 181, 0, 21, 177]
abbrev dktX7_init_1 : List UInt8 := dkwX7_init_1 ++ []
def dkwX7_init_0 : List UInt8 := [42, 183, 0, 3, 42, 16, 60, 188, 10, 181, 0, 9, 42, 16, 60, 188, 10, 181, 0, 15, 42, 16, 60]
abbrev dktX7_init_0 : List UInt8 := dkwX7_init_0 ++ dktX7_init_1
theorem dksX7_init_0 : cX7_init.data.toList.drop 0 = dktX7_init_0 := by decide +kernel
theorem dksX7_init_1 : cX7_init.data.toList.drop 23 = dktX7_init_1 := dk_seg dksX7_init_0 23 rfl rfl
theorem dX7_init_0 : decode cX7_init 0 = .ok (.aload_n 0, 1) := dk_42 (dk_at dksX7_init_0 0 rfl rfl)
theorem dX7_init_1 : decode cX7_init 1 = .ok (.invokespecial 3, 3) := dk_183 0 3 (dk_at dksX7_init_0 1 rfl rfl)
theorem dX7_init_4 : decode cX7_init 4 = .ok (.aload_n 0, 1) := dk_42 (dk_at dksX7_init_0 4 rfl rfl)
theorem dX7_init_5 : decode cX7_init 5 = .ok (.bipush 60, 2) := dk_16 60 (dk_at dksX7_init_0 5 rfl rfl)
theorem dX7_init_7 : decode cX7_init 7 = .ok (.newarray .int, 2) := dk_188_10 (dk_at dksX7_init_0 7 rfl rfl)
theorem dX7_init_9 : decode cX7_init 9 = .ok (.putfield 9, 3) := dk_181 0 9 (dk_at dksX7_init_0 9 rfl rfl)
theorem dX7_init_12 : decode cX7_init 12 = .ok (.aload_n 0, 1) := dk_42 (dk_at dksX7_init_0 12 rfl rfl)
theorem dX7_init_13 : decode cX7_init 13 = .ok (.bipush 60, 2) := dk_16 60 (dk_at dksX7_init_0 13 rfl rfl)
theorem dX7_init_15 : decode cX7_init 15 = .ok (.newarray .int, 2) := dk_188_10 (dk_at dksX7_init_0 15 rfl rfl)
theorem dX7_init_17 : decode cX7_init 17 = .ok (.putfield 15, 3) := dk_181 0 15 (dk_at dksX7_init_0 17 rfl rfl)
theorem dX7_init_20 : decode cX7_init 20 = .ok (.aload_n 0, 1) := dk_42 (dk_at dksX7_init_0 20 rfl rfl)
theorem dX7_init_21 : decode cX7_init 21 = .ok (.bipush 60, 2) := dk_16 60 (dk_at dksX7_init_0 21 rfl rfl)
theorem dX7_init_23 : decode cX7_init 23 = .ok (.newarray .int, 2) := dk_188_10 (dk_at dksX7_init_1 0 rfl rfl)
theorem dX7_init_25 : decode cX7_init 25 = .ok (.putfield 18, 3) := dk_181 0 18 (dk_at dksX7_init_1 2 rfl rfl)
theorem dX7_init_28 : decode cX7_init 28 = .ok (.aload_n 0, 1) := dk_42 (dk_at dksX7_init_1 5 rfl rfl)
theorem dX7_init_29 : decode cX7_init 29 = .ok (.aload_n 1, 1) := dk_43 (dk_at dksX7_init_1 6 rfl rfl)
theorem dX7_init_30 : decode cX7_init 30 = .ok (.putfield 21, 3) := dk_181 0 21 (dk_at dksX7_init_1 7 rfl rfl)
theorem dX7_init_33 : decode cX7_init 33 = .ok (.return_, 1) := dk_177 (dk_at dksX7_init_1 10 rfl rfl)
abbrev cX7_read : ByteArray := prog_10_method_4_code
def yX7_read : MethodName := ⟨RX7, "read", "()V"⟩
def dkwX7_read_4 : List UInt8 := [180, 0, 21, 182, 0, 29, 161, 255, 167, 177]
abbrev dktX7_read_4 : List UInt8 := dkwX7_read_4 ++ []
def dkwX7_read_3 : List UInt8 := [182, 0, 62, 167, 0, 4, 3, 79, 42, 89, 180, 0, 56, 4, 96, 181, 0, 56, 42, 180, 0, 25, 42]
abbrev dktX7_read_3 : List UInt8 := dkwX7_read_3 ++ dktX7_read_4
def dkwX7_read_2 : List UInt8 := [167, 0, 4, 3, 79, 42, 180, 0, 18, 42, 180, 0, 56, 27, 7, 8, 184, 0, 39, 153, 0, 10, 42]
abbrev dktX7_read_2 : List UInt8 := dkwX7_read_2 ++ dktX7_read_3
def dkwX7_read_1 : List UInt8 := [79, 42, 180, 0, 15, 42, 180, 0, 56, 27, 5, 16, 6, 184, 0, 39, 153, 0, 10, 42, 182, 0, 62]
abbrev dktX7_read_1 : List UInt8 := dkwX7_read_1 ++ dktX7_read_2
def dkwX7_read_0 : List UInt8 := [42, 3, 181, 0, 25, 42, 3, 181, 0, 56, 42, 182, 0, 59, 60, 42, 180, 0, 9, 42, 180, 0, 56, 27]
abbrev dktX7_read_0 : List UInt8 := dkwX7_read_0 ++ dktX7_read_1
theorem dksX7_read_0 : cX7_read.data.toList.drop 0 = dktX7_read_0 := by decide +kernel
theorem dksX7_read_1 : cX7_read.data.toList.drop 24 = dktX7_read_1 := dk_seg dksX7_read_0 24 rfl rfl
theorem dksX7_read_2 : cX7_read.data.toList.drop 47 = dktX7_read_2 := dk_seg dksX7_read_1 23 rfl rfl
theorem dksX7_read_3 : cX7_read.data.toList.drop 70 = dktX7_read_3 := dk_seg dksX7_read_2 23 rfl rfl
theorem dksX7_read_4 : cX7_read.data.toList.drop 93 = dktX7_read_4 := dk_seg dksX7_read_3 23 rfl rfl
theorem dX7_read_0 : decode cX7_read 0 = .ok (.aload_n 0, 1) := dk_42 (dk_at dksX7_read_0 0 rfl rfl)
theorem dX7_read_1 : decode cX7_read 1 = .ok (.iconst 0, 1) := dk_3 (dk_at dksX7_read_0 1 rfl rfl)
theorem dX7_read_2 : decode cX7_read 2 = .ok (.putfield 25, 3) := dk_181 0 25 (dk_at dksX7_read_0 2 rfl rfl)
theorem dX7_read_5 : decode cX7_read 5 = .ok (.aload_n 0, 1) := dk_42 (dk_at dksX7_read_0 5 rfl rfl)
theorem dX7_read_6 : decode cX7_read 6 = .ok (.iconst 0, 1) := dk_3 (dk_at dksX7_read_0 6 rfl rfl)
theorem dX7_read_7 : decode cX7_read 7 = .ok (.putfield 56, 3) := dk_181 0 56 (dk_at dksX7_read_0 7 rfl rfl)
theorem dX7_read_10 : decode cX7_read 10 = .ok (.aload_n 0, 1) := dk_42 (dk_at dksX7_read_0 10 rfl rfl)
theorem dX7_read_11 : decode cX7_read 11 = .ok (.invokevirtual 59, 3) := dk_182 0 59 (dk_at dksX7_read_0 11 rfl rfl)
theorem dX7_read_14 : decode cX7_read 14 = .ok (.istore_n 1, 1) := dk_60 (dk_at dksX7_read_0 14 rfl rfl)
theorem dX7_read_15 : decode cX7_read 15 = .ok (.aload_n 0, 1) := dk_42 (dk_at dksX7_read_0 15 rfl rfl)
theorem dX7_read_16 : decode cX7_read 16 = .ok (.getfield 9, 3) := dk_180 0 9 (dk_at dksX7_read_0 16 rfl rfl)
theorem dX7_read_19 : decode cX7_read 19 = .ok (.aload_n 0, 1) := dk_42 (dk_at dksX7_read_0 19 rfl rfl)
theorem dX7_read_20 : decode cX7_read 20 = .ok (.getfield 56, 3) := dk_180 0 56 (dk_at dksX7_read_0 20 rfl rfl)
theorem dX7_read_23 : decode cX7_read 23 = .ok (.iload_n 1, 1) := dk_27 (dk_at dksX7_read_0 23 rfl rfl)
theorem dX7_read_24 : decode cX7_read 24 = .ok (.iastore, 1) := dk_79 (dk_at dksX7_read_1 0 rfl rfl)
theorem dX7_read_25 : decode cX7_read 25 = .ok (.aload_n 0, 1) := dk_42 (dk_at dksX7_read_1 1 rfl rfl)
theorem dX7_read_26 : decode cX7_read 26 = .ok (.getfield 15, 3) := dk_180 0 15 (dk_at dksX7_read_1 2 rfl rfl)
theorem dX7_read_29 : decode cX7_read 29 = .ok (.aload_n 0, 1) := dk_42 (dk_at dksX7_read_1 5 rfl rfl)
theorem dX7_read_30 : decode cX7_read 30 = .ok (.getfield 56, 3) := dk_180 0 56 (dk_at dksX7_read_1 6 rfl rfl)
theorem dX7_read_33 : decode cX7_read 33 = .ok (.iload_n 1, 1) := dk_27 (dk_at dksX7_read_1 9 rfl rfl)
theorem dX7_read_34 : decode cX7_read 34 = .ok (.iconst 2, 1) := dk_5 (dk_at dksX7_read_1 10 rfl rfl)
theorem dX7_read_35 : decode cX7_read 35 = .ok (.bipush 6, 2) := dk_16 6 (dk_at dksX7_read_1 11 rfl rfl)
theorem dX7_read_37 : decode cX7_read 37 = .ok (.invokestatic 39, 3) := dk_184 0 39 (dk_at dksX7_read_1 13 rfl rfl)
theorem dX7_read_40 : decode cX7_read 40 = .ok (.ifCond .eq 10, 3) := dk_153 0 10 (dk_at dksX7_read_1 16 rfl rfl)
theorem dX7_read_43 : decode cX7_read 43 = .ok (.aload_n 0, 1) := dk_42 (dk_at dksX7_read_1 19 rfl rfl)
theorem dX7_read_44 : decode cX7_read 44 = .ok (.invokevirtual 62, 3) := dk_182 0 62 (dk_at dksX7_read_1 20 rfl rfl)
theorem dX7_read_47 : decode cX7_read 47 = .ok (.goto 4, 3) := dk_167 0 4 (dk_at dksX7_read_2 0 rfl rfl)
theorem dX7_read_50 : decode cX7_read 50 = .ok (.iconst 0, 1) := dk_3 (dk_at dksX7_read_2 3 rfl rfl)
theorem dX7_read_51 : decode cX7_read 51 = .ok (.iastore, 1) := dk_79 (dk_at dksX7_read_2 4 rfl rfl)
theorem dX7_read_52 : decode cX7_read 52 = .ok (.aload_n 0, 1) := dk_42 (dk_at dksX7_read_2 5 rfl rfl)
theorem dX7_read_53 : decode cX7_read 53 = .ok (.getfield 18, 3) := dk_180 0 18 (dk_at dksX7_read_2 6 rfl rfl)
theorem dX7_read_56 : decode cX7_read 56 = .ok (.aload_n 0, 1) := dk_42 (dk_at dksX7_read_2 9 rfl rfl)
theorem dX7_read_57 : decode cX7_read 57 = .ok (.getfield 56, 3) := dk_180 0 56 (dk_at dksX7_read_2 10 rfl rfl)
theorem dX7_read_60 : decode cX7_read 60 = .ok (.iload_n 1, 1) := dk_27 (dk_at dksX7_read_2 13 rfl rfl)
theorem dX7_read_61 : decode cX7_read 61 = .ok (.iconst 4, 1) := dk_7 (dk_at dksX7_read_2 14 rfl rfl)
theorem dX7_read_62 : decode cX7_read 62 = .ok (.iconst 5, 1) := dk_8 (dk_at dksX7_read_2 15 rfl rfl)
theorem dX7_read_63 : decode cX7_read 63 = .ok (.invokestatic 39, 3) := dk_184 0 39 (dk_at dksX7_read_2 16 rfl rfl)
theorem dX7_read_66 : decode cX7_read 66 = .ok (.ifCond .eq 10, 3) := dk_153 0 10 (dk_at dksX7_read_2 19 rfl rfl)
theorem dX7_read_69 : decode cX7_read 69 = .ok (.aload_n 0, 1) := dk_42 (dk_at dksX7_read_2 22 rfl rfl)
theorem dX7_read_70 : decode cX7_read 70 = .ok (.invokevirtual 62, 3) := dk_182 0 62 (dk_at dksX7_read_3 0 rfl rfl)
theorem dX7_read_73 : decode cX7_read 73 = .ok (.goto 4, 3) := dk_167 0 4 (dk_at dksX7_read_3 3 rfl rfl)
theorem dX7_read_76 : decode cX7_read 76 = .ok (.iconst 0, 1) := dk_3 (dk_at dksX7_read_3 6 rfl rfl)
theorem dX7_read_77 : decode cX7_read 77 = .ok (.iastore, 1) := dk_79 (dk_at dksX7_read_3 7 rfl rfl)
theorem dX7_read_78 : decode cX7_read 78 = .ok (.aload_n 0, 1) := dk_42 (dk_at dksX7_read_3 8 rfl rfl)
theorem dX7_read_79 : decode cX7_read 79 = .ok (.dup, 1) := dk_89 (dk_at dksX7_read_3 9 rfl rfl)
theorem dX7_read_80 : decode cX7_read 80 = .ok (.getfield 56, 3) := dk_180 0 56 (dk_at dksX7_read_3 10 rfl rfl)
theorem dX7_read_83 : decode cX7_read 83 = .ok (.iconst 1, 1) := dk_4 (dk_at dksX7_read_3 13 rfl rfl)
theorem dX7_read_84 : decode cX7_read 84 = .ok (.iadd, 1) := dk_96 (dk_at dksX7_read_3 14 rfl rfl)
theorem dX7_read_85 : decode cX7_read 85 = .ok (.putfield 56, 3) := dk_181 0 56 (dk_at dksX7_read_3 15 rfl rfl)
theorem dX7_read_88 : decode cX7_read 88 = .ok (.aload_n 0, 1) := dk_42 (dk_at dksX7_read_3 18 rfl rfl)
theorem dX7_read_89 : decode cX7_read 89 = .ok (.getfield 25, 3) := dk_180 0 25 (dk_at dksX7_read_3 19 rfl rfl)
theorem dX7_read_92 : decode cX7_read 92 = .ok (.aload_n 0, 1) := dk_42 (dk_at dksX7_read_3 22 rfl rfl)
theorem dX7_read_93 : decode cX7_read 93 = .ok (.getfield 21, 3) := dk_180 0 21 (dk_at dksX7_read_4 0 rfl rfl)
theorem dX7_read_96 : decode cX7_read 96 = .ok (.invokevirtual 29, 3) := dk_182 0 29 (dk_at dksX7_read_4 3 rfl rfl)
theorem dX7_read_99 : decode cX7_read 99 = .ok (.if_icmp .lt (-89), 3) := dk_161 255 167 (dk_at dksX7_read_4 6 rfl rfl)
theorem dX7_read_102 : decode cX7_read 102 = .ok (.return_, 1) := dk_177 (dk_at dksX7_read_4 9 rfl rfl)
abbrev cX7_sort : ByteArray := prog_10_method_3_code
def yX7_sort : MethodName := ⟨RX7, "sort", "()I"⟩
def dkwX7_sort_2 : List UInt8 := [183, 0, 45, 191, 42, 89, 180, 0, 25, 4, 96, 181, 0, 25, 27, 172]
abbrev dktX7_sort_2 : List UInt8 := dkwX7_sort_2 ++ []
def dkwX7_sort_1 : List UInt8 := [182, 0, 35, 182, 0, 50, 167, 0, 4, 2, 60, 27, 2, 160, 0, 15, 187, 0, 43, 89, 42, 180, 0, 25]
abbrev dktX7_sort_1 : List UInt8 := dkwX7_sort_1 ++ dktX7_sort_2
def dkwX7_sort_0 : List UInt8 := [42, 180, 0, 25, 42, 180, 0, 21, 182, 0, 29, 162, 0, 22, 18, 48, 42, 180, 0, 21, 42, 180, 0, 25]
abbrev dktX7_sort_0 : List UInt8 := dkwX7_sort_0 ++ dktX7_sort_1
theorem dksX7_sort_0 : cX7_sort.data.toList.drop 0 = dktX7_sort_0 := by decide +kernel
theorem dksX7_sort_1 : cX7_sort.data.toList.drop 24 = dktX7_sort_1 := dk_seg dksX7_sort_0 24 rfl rfl
theorem dksX7_sort_2 : cX7_sort.data.toList.drop 48 = dktX7_sort_2 := dk_seg dksX7_sort_1 24 rfl rfl
theorem dX7_sort_0 : decode cX7_sort 0 = .ok (.aload_n 0, 1) := dk_42 (dk_at dksX7_sort_0 0 rfl rfl)
theorem dX7_sort_1 : decode cX7_sort 1 = .ok (.getfield 25, 3) := dk_180 0 25 (dk_at dksX7_sort_0 1 rfl rfl)
theorem dX7_sort_4 : decode cX7_sort 4 = .ok (.aload_n 0, 1) := dk_42 (dk_at dksX7_sort_0 4 rfl rfl)
theorem dX7_sort_5 : decode cX7_sort 5 = .ok (.getfield 21, 3) := dk_180 0 21 (dk_at dksX7_sort_0 5 rfl rfl)
theorem dX7_sort_8 : decode cX7_sort 8 = .ok (.invokevirtual 29, 3) := dk_182 0 29 (dk_at dksX7_sort_0 8 rfl rfl)
theorem dX7_sort_11 : decode cX7_sort 11 = .ok (.if_icmp .ge 22, 3) := dk_162 0 22 (dk_at dksX7_sort_0 11 rfl rfl)
theorem dX7_sort_14 : decode cX7_sort 14 = .ok (.ldc 48, 2) := dk_18 48 (dk_at dksX7_sort_0 14 rfl rfl)
theorem dX7_sort_16 : decode cX7_sort 16 = .ok (.aload_n 0, 1) := dk_42 (dk_at dksX7_sort_0 16 rfl rfl)
theorem dX7_sort_17 : decode cX7_sort 17 = .ok (.getfield 21, 3) := dk_180 0 21 (dk_at dksX7_sort_0 17 rfl rfl)
theorem dX7_sort_20 : decode cX7_sort 20 = .ok (.aload_n 0, 1) := dk_42 (dk_at dksX7_sort_0 20 rfl rfl)
theorem dX7_sort_21 : decode cX7_sort 21 = .ok (.getfield 25, 3) := dk_180 0 25 (dk_at dksX7_sort_0 21 rfl rfl)
theorem dX7_sort_24 : decode cX7_sort 24 = .ok (.invokevirtual 35, 3) := dk_182 0 35 (dk_at dksX7_sort_1 0 rfl rfl)
theorem dX7_sort_27 : decode cX7_sort 27 = .ok (.invokevirtual 50, 3) := dk_182 0 50 (dk_at dksX7_sort_1 3 rfl rfl)
theorem dX7_sort_30 : decode cX7_sort 30 = .ok (.goto 4, 3) := dk_167 0 4 (dk_at dksX7_sort_1 6 rfl rfl)
theorem dX7_sort_33 : decode cX7_sort 33 = .ok (.iconst (-1), 1) := dk_2 (dk_at dksX7_sort_1 9 rfl rfl)
theorem dX7_sort_34 : decode cX7_sort 34 = .ok (.istore_n 1, 1) := dk_60 (dk_at dksX7_sort_1 10 rfl rfl)
theorem dX7_sort_35 : decode cX7_sort 35 = .ok (.iload_n 1, 1) := dk_27 (dk_at dksX7_sort_1 11 rfl rfl)
theorem dX7_sort_36 : decode cX7_sort 36 = .ok (.iconst (-1), 1) := dk_2 (dk_at dksX7_sort_1 12 rfl rfl)
theorem dX7_sort_37 : decode cX7_sort 37 = .ok (.if_icmp .ne 15, 3) := dk_160 0 15 (dk_at dksX7_sort_1 13 rfl rfl)
theorem dX7_sort_40 : decode cX7_sort 40 = .ok (.new 43, 3) := dk_187 0 43 (dk_at dksX7_sort_1 16 rfl rfl)
theorem dX7_sort_43 : decode cX7_sort 43 = .ok (.dup, 1) := dk_89 (dk_at dksX7_sort_1 19 rfl rfl)
theorem dX7_sort_44 : decode cX7_sort 44 = .ok (.aload_n 0, 1) := dk_42 (dk_at dksX7_sort_1 20 rfl rfl)
theorem dX7_sort_45 : decode cX7_sort 45 = .ok (.getfield 25, 3) := dk_180 0 25 (dk_at dksX7_sort_1 21 rfl rfl)
theorem dX7_sort_48 : decode cX7_sort 48 = .ok (.invokespecial 45, 3) := dk_183 0 45 (dk_at dksX7_sort_2 0 rfl rfl)
theorem dX7_sort_51 : decode cX7_sort 51 = .ok (.athrow, 1) := dk_191 (dk_at dksX7_sort_2 3 rfl rfl)
theorem dX7_sort_52 : decode cX7_sort 52 = .ok (.aload_n 0, 1) := dk_42 (dk_at dksX7_sort_2 4 rfl rfl)
theorem dX7_sort_53 : decode cX7_sort 53 = .ok (.dup, 1) := dk_89 (dk_at dksX7_sort_2 5 rfl rfl)
theorem dX7_sort_54 : decode cX7_sort 54 = .ok (.getfield 25, 3) := dk_180 0 25 (dk_at dksX7_sort_2 6 rfl rfl)
theorem dX7_sort_57 : decode cX7_sort 57 = .ok (.iconst 1, 1) := dk_4 (dk_at dksX7_sort_2 9 rfl rfl)
theorem dX7_sort_58 : decode cX7_sort 58 = .ok (.iadd, 1) := dk_96 (dk_at dksX7_sort_2 10 rfl rfl)
theorem dX7_sort_59 : decode cX7_sort 59 = .ok (.putfield 25, 3) := dk_181 0 25 (dk_at dksX7_sort_2 11 rfl rfl)
theorem dX7_sort_62 : decode cX7_sort 62 = .ok (.iload_n 1, 1) := dk_27 (dk_at dksX7_sort_2 14 rfl rfl)
theorem dX7_sort_63 : decode cX7_sort 63 = .ok (.ireturn, 1) := dk_172 (dk_at dksX7_sort_2 15 rfl rfl)
abbrev cX7_digit : ByteArray := prog_10_method_2_code
def yX7_digit : MethodName := ⟨RX7, "digit", "()I"⟩
def dkwX7_digit_3 : List UInt8 := [16, 48, 100, 172]
abbrev dktX7_digit_3 : List UInt8 := dkwX7_digit_3 ++ []
def dkwX7_digit_2 : List UInt8 := [191, 42, 89, 180, 0, 25, 4, 96, 181, 0, 25, 42, 180, 0, 21, 42, 180, 0, 25, 4, 100, 182, 0, 35]
abbrev dktX7_digit_2 : List UInt8 := dkwX7_digit_2 ++ dktX7_digit_3
def dkwX7_digit_1 : List UInt8 := [182, 0, 35, 16, 48, 16, 57, 184, 0, 39, 154, 0, 15, 187, 0, 43, 89, 42, 180, 0, 25, 183, 0, 45]
abbrev dktX7_digit_1 : List UInt8 := dkwX7_digit_1 ++ dktX7_digit_2
def dkwX7_digit_0 : List UInt8 := [42, 180, 0, 25, 42, 180, 0, 21, 182, 0, 29, 159, 0, 24, 42, 180, 0, 21, 42, 180, 0, 25]
abbrev dktX7_digit_0 : List UInt8 := dkwX7_digit_0 ++ dktX7_digit_1
theorem dksX7_digit_0 : cX7_digit.data.toList.drop 0 = dktX7_digit_0 := by decide +kernel
theorem dksX7_digit_1 : cX7_digit.data.toList.drop 22 = dktX7_digit_1 := dk_seg dksX7_digit_0 22 rfl rfl
theorem dksX7_digit_2 : cX7_digit.data.toList.drop 46 = dktX7_digit_2 := dk_seg dksX7_digit_1 24 rfl rfl
theorem dksX7_digit_3 : cX7_digit.data.toList.drop 70 = dktX7_digit_3 := dk_seg dksX7_digit_2 24 rfl rfl
theorem dX7_digit_0 : decode cX7_digit 0 = .ok (.aload_n 0, 1) := dk_42 (dk_at dksX7_digit_0 0 rfl rfl)
theorem dX7_digit_1 : decode cX7_digit 1 = .ok (.getfield 25, 3) := dk_180 0 25 (dk_at dksX7_digit_0 1 rfl rfl)
theorem dX7_digit_4 : decode cX7_digit 4 = .ok (.aload_n 0, 1) := dk_42 (dk_at dksX7_digit_0 4 rfl rfl)
theorem dX7_digit_5 : decode cX7_digit 5 = .ok (.getfield 21, 3) := dk_180 0 21 (dk_at dksX7_digit_0 5 rfl rfl)
theorem dX7_digit_8 : decode cX7_digit 8 = .ok (.invokevirtual 29, 3) := dk_182 0 29 (dk_at dksX7_digit_0 8 rfl rfl)
theorem dX7_digit_11 : decode cX7_digit 11 = .ok (.if_icmp .eq 24, 3) := dk_159 0 24 (dk_at dksX7_digit_0 11 rfl rfl)
theorem dX7_digit_14 : decode cX7_digit 14 = .ok (.aload_n 0, 1) := dk_42 (dk_at dksX7_digit_0 14 rfl rfl)
theorem dX7_digit_15 : decode cX7_digit 15 = .ok (.getfield 21, 3) := dk_180 0 21 (dk_at dksX7_digit_0 15 rfl rfl)
theorem dX7_digit_18 : decode cX7_digit 18 = .ok (.aload_n 0, 1) := dk_42 (dk_at dksX7_digit_0 18 rfl rfl)
theorem dX7_digit_19 : decode cX7_digit 19 = .ok (.getfield 25, 3) := dk_180 0 25 (dk_at dksX7_digit_0 19 rfl rfl)
theorem dX7_digit_22 : decode cX7_digit 22 = .ok (.invokevirtual 35, 3) := dk_182 0 35 (dk_at dksX7_digit_1 0 rfl rfl)
theorem dX7_digit_25 : decode cX7_digit 25 = .ok (.bipush 48, 2) := dk_16 48 (dk_at dksX7_digit_1 3 rfl rfl)
theorem dX7_digit_27 : decode cX7_digit 27 = .ok (.bipush 57, 2) := dk_16 57 (dk_at dksX7_digit_1 5 rfl rfl)
theorem dX7_digit_29 : decode cX7_digit 29 = .ok (.invokestatic 39, 3) := dk_184 0 39 (dk_at dksX7_digit_1 7 rfl rfl)
theorem dX7_digit_32 : decode cX7_digit 32 = .ok (.ifCond .ne 15, 3) := dk_154 0 15 (dk_at dksX7_digit_1 10 rfl rfl)
theorem dX7_digit_35 : decode cX7_digit 35 = .ok (.new 43, 3) := dk_187 0 43 (dk_at dksX7_digit_1 13 rfl rfl)
theorem dX7_digit_38 : decode cX7_digit 38 = .ok (.dup, 1) := dk_89 (dk_at dksX7_digit_1 16 rfl rfl)
theorem dX7_digit_39 : decode cX7_digit 39 = .ok (.aload_n 0, 1) := dk_42 (dk_at dksX7_digit_1 17 rfl rfl)
theorem dX7_digit_40 : decode cX7_digit 40 = .ok (.getfield 25, 3) := dk_180 0 25 (dk_at dksX7_digit_1 18 rfl rfl)
theorem dX7_digit_43 : decode cX7_digit 43 = .ok (.invokespecial 45, 3) := dk_183 0 45 (dk_at dksX7_digit_1 21 rfl rfl)
theorem dX7_digit_46 : decode cX7_digit 46 = .ok (.athrow, 1) := dk_191 (dk_at dksX7_digit_2 0 rfl rfl)
theorem dX7_digit_47 : decode cX7_digit 47 = .ok (.aload_n 0, 1) := dk_42 (dk_at dksX7_digit_2 1 rfl rfl)
theorem dX7_digit_48 : decode cX7_digit 48 = .ok (.dup, 1) := dk_89 (dk_at dksX7_digit_2 2 rfl rfl)
theorem dX7_digit_49 : decode cX7_digit 49 = .ok (.getfield 25, 3) := dk_180 0 25 (dk_at dksX7_digit_2 3 rfl rfl)
theorem dX7_digit_52 : decode cX7_digit 52 = .ok (.iconst 1, 1) := dk_4 (dk_at dksX7_digit_2 6 rfl rfl)
theorem dX7_digit_53 : decode cX7_digit 53 = .ok (.iadd, 1) := dk_96 (dk_at dksX7_digit_2 7 rfl rfl)
theorem dX7_digit_54 : decode cX7_digit 54 = .ok (.putfield 25, 3) := dk_181 0 25 (dk_at dksX7_digit_2 8 rfl rfl)
theorem dX7_digit_57 : decode cX7_digit 57 = .ok (.aload_n 0, 1) := dk_42 (dk_at dksX7_digit_2 11 rfl rfl)
theorem dX7_digit_58 : decode cX7_digit 58 = .ok (.getfield 21, 3) := dk_180 0 21 (dk_at dksX7_digit_2 12 rfl rfl)
theorem dX7_digit_61 : decode cX7_digit 61 = .ok (.aload_n 0, 1) := dk_42 (dk_at dksX7_digit_2 15 rfl rfl)
theorem dX7_digit_62 : decode cX7_digit 62 = .ok (.getfield 25, 3) := dk_180 0 25 (dk_at dksX7_digit_2 16 rfl rfl)
theorem dX7_digit_65 : decode cX7_digit 65 = .ok (.iconst 1, 1) := dk_4 (dk_at dksX7_digit_2 19 rfl rfl)
theorem dX7_digit_66 : decode cX7_digit 66 = .ok (.isub, 1) := dk_100 (dk_at dksX7_digit_2 20 rfl rfl)
theorem dX7_digit_67 : decode cX7_digit 67 = .ok (.invokevirtual 35, 3) := dk_182 0 35 (dk_at dksX7_digit_2 21 rfl rfl)
theorem dX7_digit_70 : decode cX7_digit 70 = .ok (.bipush 48, 2) := dk_16 48 (dk_at dksX7_digit_3 0 rfl rfl)
theorem dX7_digit_72 : decode cX7_digit 72 = .ok (.isub, 1) := dk_100 (dk_at dksX7_digit_3 2 rfl rfl)
theorem dX7_digit_73 : decode cX7_digit 73 = .ok (.ireturn, 1) := dk_172 (dk_at dksX7_digit_3 3 rfl rfl)
theorem q88 : (Jvm.Cond.initialized "PloughWills$Reader") ∈ lw_all := lw_g (lw_at lw_m1 13 rfl) rfl
theorem q378 : (Jvm.Cond.instantiable "PloughWills$Reader" (6 : Nat)) ∈ lw_all := lw_g (lw_at lw_m2 63 rfl) rfl
theorem q380 : (Jvm.Cond.instanceMethod ({ cls := "PloughWills$Reader", name := "<init>", desc := "(Ljava/lang/StringBuilder;)V" } : Jvm.MethodName)) ∈ lw_all := lw_g (lw_at lw_m2 65 rfl) rfl
theorem q381 : (Jvm.Cond.code ({ cls := "PloughWills$Reader", name := "<init>", desc := "(Ljava/lang/StringBuilder;)V" } : Jvm.MethodName) prog_10_method_1_code (2 : Nat) (Option.none : Option Jvm.ClassFile.FieldType)) ∈ lw_all := lw_g (lw_at lw_m2 66 rfl) rfl
theorem q382 : (Jvm.Cond.methodLink "PloughWills$Reader" (3 : Nat) ({ cls := "java/lang/Object", name := "<init>", desc := "()V" } : Jvm.MethodName)) ∈ lw_all := lw_g (lw_at lw_m2 67 rfl) rfl
theorem q383 : (Jvm.Cond.fieldLink "PloughWills$Reader" (21 : Nat) "PloughWills$Reader" "text" "Ljava/lang/StringBuilder;") ∈ lw_all := lw_g (lw_at lw_m2 68 rfl) rfl
theorem q384 : (Jvm.Cond.fieldLink "PloughWills$Reader" (25 : Nat) "PloughWills$Reader" "at" "I") ∈ lw_all := lw_g (lw_at lw_m2 69 rfl) rfl
theorem q385 : (Jvm.Cond.fieldLink "PloughWills$Reader" (56 : Nat) "PloughWills$Reader" "many" "I") ∈ lw_all := lw_g (lw_at lw_m2 70 rfl) rfl
theorem q387 : (Jvm.Cond.fieldLink "PloughWills$Reader" (9 : Nat) "PloughWills$Reader" "sorts" "[I") ∈ lw_all := lw_g (lw_at lw_m2 72 rfl) rfl
theorem q389 : (Jvm.Cond.fieldLink "PloughWills$Reader" (15 : Nat) "PloughWills$Reader" "ones" "[I") ∈ lw_all := lw_g (lw_at lw_m2 74 rfl) rfl
theorem q391 : (Jvm.Cond.fieldLink "PloughWills$Reader" (18 : Nat) "PloughWills$Reader" "others" "[I") ∈ lw_all := lw_g (lw_at lw_m2 76 rfl) rfl
theorem q393 : (Jvm.Cond.laysFinal "PloughWills$Reader" "PloughWills$Reader" "text" "Ljava/lang/StringBuilder;") ∈ lw_all := lw_g (lw_at lw_m2 78 rfl) rfl
theorem q394 : (Jvm.Cond.soleField "PloughWills$Reader" "text") ∈ lw_all := lw_g (lw_at lw_m2 79 rfl) rfl
theorem q395 : (Jvm.Cond.lays "PloughWills$Reader" "PloughWills$Reader" "at" "I") ∈ lw_all := lw_g (lw_at lw_m2 80 rfl) rfl
theorem q396 : (Jvm.Cond.soleField "PloughWills$Reader" "at") ∈ lw_all := lw_g (lw_at lw_m2 81 rfl) rfl
theorem q397 : (Jvm.Cond.lays "PloughWills$Reader" "PloughWills$Reader" "many" "I") ∈ lw_all := lw_g (lw_at lw_m2 82 rfl) rfl
theorem q398 : (Jvm.Cond.soleField "PloughWills$Reader" "many") ∈ lw_all := lw_g (lw_at lw_m2 83 rfl) rfl
theorem q399 : (Jvm.Cond.laysFinal "PloughWills$Reader" "PloughWills$Reader" "sorts" "[I") ∈ lw_all := lw_g (lw_at lw_m2 84 rfl) rfl
theorem q400 : (Jvm.Cond.soleField "PloughWills$Reader" "sorts") ∈ lw_all := lw_g (lw_at lw_m2 85 rfl) rfl
theorem q401 : (Jvm.Cond.laysFinal "PloughWills$Reader" "PloughWills$Reader" "ones" "[I") ∈ lw_all := lw_g (lw_at lw_m2 86 rfl) rfl
theorem q402 : (Jvm.Cond.soleField "PloughWills$Reader" "ones") ∈ lw_all := lw_g (lw_at lw_m2 87 rfl) rfl
theorem q403 : (Jvm.Cond.laysFinal "PloughWills$Reader" "PloughWills$Reader" "others" "[I") ∈ lw_all := lw_g (lw_at lw_m2 88 rfl) rfl
theorem q404 : (Jvm.Cond.soleField "PloughWills$Reader" "others") ∈ lw_all := lw_g (lw_at lw_m2 89 rfl) rfl
theorem q405 : (Jvm.Cond.superclass "PloughWills$Reader" "java/lang/Object") ∈ lw_all := lw_g (lw_at lw_m2 90 rfl) rfl
theorem q512 : (Jvm.Cond.selects "PloughWills$Reader" ({ cls := "java/lang/Object", name := "getClass", desc := "()Ljava/lang/Class;" } : Jvm.MethodName) ({ cls := "java/lang/Object", name := "getClass", desc := "()Ljava/lang/Class;" } : Jvm.MethodName)) ∈ lw_all := lw_g (lw_at lw_m2 197 rfl) rfl
theorem q1556 : (Jvm.Cond.instanceMethod ({ cls := "PloughWills$Reader", name := "read", desc := "()V" } : Jvm.MethodName)) ∈ lw_all := lw_g (lw_at lw_m7 41 rfl) rfl
theorem q1557 : (Jvm.Cond.selects "PloughWills$Reader" ({ cls := "PloughWills$Reader", name := "read", desc := "()V" } : Jvm.MethodName) ({ cls := "PloughWills$Reader", name := "read", desc := "()V" } : Jvm.MethodName)) ∈ lw_all := lw_g (lw_at lw_m7 42 rfl) rfl
theorem q1558 : (Jvm.Cond.code ({ cls := "PloughWills$Reader", name := "read", desc := "()V" } : Jvm.MethodName) prog_10_method_4_code (2 : Nat) (Option.none : Option Jvm.ClassFile.FieldType)) ∈ lw_all := lw_g (lw_at lw_m7 43 rfl) rfl
theorem q1559 : (Jvm.Cond.methodLink "PloughWills$Reader" (59 : Nat) ({ cls := "PloughWills$Reader", name := "sort", desc := "()I" } : Jvm.MethodName)) ∈ lw_all := lw_g (lw_at lw_m7 44 rfl) rfl
theorem q1560 : (Jvm.Cond.privateMethod ({ cls := "PloughWills$Reader", name := "sort", desc := "()I" } : Jvm.MethodName)) ∈ lw_tbl := lw_at lw_m7 45 rfl
theorem q1561 : (Jvm.Cond.instanceMethod ({ cls := "PloughWills$Reader", name := "sort", desc := "()I" } : Jvm.MethodName)) ∈ lw_all := lw_g (lw_at lw_m7 46 rfl) rfl
theorem q1562 : (Jvm.Cond.code ({ cls := "PloughWills$Reader", name := "sort", desc := "()I" } : Jvm.MethodName) prog_10_method_3_code (2 : Nat) (Option.some Jvm.ClassFile.FieldType.int)) ∈ lw_all := lw_g (lw_at lw_m7 47 rfl) rfl
theorem q1563 : (Jvm.Cond.methodLink "PloughWills$Reader" (29 : Nat) ({ cls := "java/lang/StringBuilder", name := "length", desc := "()I" } : Jvm.MethodName)) ∈ lw_all := lw_g (lw_at lw_m7 48 rfl) rfl
theorem q1564 : (Jvm.Cond.stringRef "PloughWills$Reader" (48 : Nat) "()bguwp[|]") ∈ lw_tbl := lw_at lw_m7 49 rfl
theorem q1565 : (Jvm.Cond.methodLink "PloughWills$Reader" (35 : Nat) ({ cls := "java/lang/StringBuilder", name := "charAt", desc := "(I)C" } : Jvm.MethodName)) ∈ lw_all := lw_g (lw_at lw_m7 50 rfl) rfl
theorem q1566 : (Jvm.Cond.methodLink "PloughWills$Reader" (50 : Nat) ({ cls := "java/lang/String", name := "indexOf", desc := "(I)I" } : Jvm.MethodName)) ∈ lw_all := lw_g (lw_at lw_m7 51 rfl) rfl
theorem q1612 : (Jvm.Cond.classLink "PloughWills$Reader" (43 : Nat) "PloughWills$Fault") ∈ lw_all := lw_g (lw_at lw_m7 97 rfl) rfl
theorem q1621 : (Jvm.Cond.methodLink "PloughWills$Reader" (45 : Nat) ({ cls := "PloughWills$Fault", name := "<init>", desc := "(I)V" } : Jvm.MethodName)) ∈ lw_all := lw_g (lw_at lw_m7 106 rfl) rfl
theorem q1631 : (Jvm.Cond.methodLinkNest "PloughWills$Reader" (39 : Nat) ({ cls := "PloughWills", name := "in", desc := "(III)Z" } : Jvm.MethodName) "PloughWills") ∈ lw_tbl := lw_at lw_m7 116 rfl
theorem q1632 : (Jvm.Cond.methodLink "PloughWills$Reader" (62 : Nat) ({ cls := "PloughWills$Reader", name := "digit", desc := "()I" } : Jvm.MethodName)) ∈ lw_all := lw_g (lw_at lw_m7 117 rfl) rfl
theorem q1633 : (Jvm.Cond.privateMethod ({ cls := "PloughWills$Reader", name := "digit", desc := "()I" } : Jvm.MethodName)) ∈ lw_tbl := lw_at lw_m7 118 rfl
theorem q1634 : (Jvm.Cond.instanceMethod ({ cls := "PloughWills$Reader", name := "digit", desc := "()I" } : Jvm.MethodName)) ∈ lw_all := lw_g (lw_at lw_m7 119 rfl) rfl
theorem q1635 : (Jvm.Cond.code ({ cls := "PloughWills$Reader", name := "digit", desc := "()I" } : Jvm.MethodName) prog_10_method_2_code (1 : Nat) (Option.some Jvm.ClassFile.FieldType.int)) ∈ lw_all := lw_g (lw_at lw_m7 120 rfl) rfl
theorem q2183 : (Jvm.Cond.castable "PloughWills$Reader" "java/lang/Object") ∈ lw_tbl := lw_at lw_m9 188 rfl
theorem in_X7 : ∀ w ∈ wsX70, w ∈ lw_all := lw_in wsX70 [393, 395, 397, 399, 401, 403] (by decide +kernel) (by decide +kernel)
/-! PloughWills$Refused -/
set_option maxRecDepth 100000
def RX9 : String := "PloughWills$Refused"
def TX9 : u_T := fun k => match k with
  | 0 => ("java/lang/Throwable", "cause", "Ljava/lang/Throwable;", false)
  | 1 => ("java/lang/Throwable", "stackTrace", "[Ljava/lang/StackTraceElement;", false)
  | 2 => ("java/lang/Throwable", "suppressedExceptions", "Ljava/util/List;", false)
  | 3 => ("java/lang/Throwable", "detailMessage", "Ljava/lang/String;", false)
  | 4 => ("java/lang/Throwable", "backtrace", "Ljava/lang/Object;", false)
  | 5 => ("java/lang/Throwable", "depth", "I", false)
  | 6 => ("PloughWills$Refused", "reason", "I", true)
  | _ => ("PloughWills$Refused", "detail", "I", true)
def tyX9 : Nat → FieldType := fun k => match k with
  | 0 => .object "java/lang/Throwable"
  | 1 => .array (.object "java/lang/StackTraceElement")
  | 2 => .object "java/util/List"
  | 3 => .object "java/lang/String"
  | 4 => .object "java/lang/Object"
  | 5 => .int
  | 6 => .int
  | _ => .int
abbrev wsX90 : List Cond := u_ws RX9 TX9 8
theorem nmX9 : ∀ a, a < 8 → ∀ b, b < 8 → a ≠ b → (TX9 a).2.1 ≠ (TX9 b).2.1 := by decide +kernel
theorem tyX9_ok : ∀ k, k < 8 → parseFieldDescriptor (TX9 k).2.2.1 = some (tyX9 k) := by decide +kernel
abbrev cX9_init : ByteArray := prog_11_method_1_code
def yX9_init : MethodName := ⟨RX9, "<init>", "(II)V"⟩
def dkwX9_init_0 : List UInt8 := [42, 183, 0, 1, 42, 27, 181, 0, 7, 42, 28, 181, 0, 13, 177]
abbrev dktX9_init_0 : List UInt8 := dkwX9_init_0 ++ []
theorem dksX9_init_0 : cX9_init.data.toList.drop 0 = dktX9_init_0 := by decide +kernel
theorem dX9_init_0 : decode cX9_init 0 = .ok (.aload_n 0, 1) := dk_42 (dk_at dksX9_init_0 0 rfl rfl)
theorem dX9_init_1 : decode cX9_init 1 = .ok (.invokespecial 1, 3) := dk_183 0 1 (dk_at dksX9_init_0 1 rfl rfl)
theorem dX9_init_4 : decode cX9_init 4 = .ok (.aload_n 0, 1) := dk_42 (dk_at dksX9_init_0 4 rfl rfl)
theorem dX9_init_5 : decode cX9_init 5 = .ok (.iload_n 1, 1) := dk_27 (dk_at dksX9_init_0 5 rfl rfl)
theorem dX9_init_6 : decode cX9_init 6 = .ok (.putfield 7, 3) := dk_181 0 7 (dk_at dksX9_init_0 6 rfl rfl)
theorem dX9_init_9 : decode cX9_init 9 = .ok (.aload_n 0, 1) := dk_42 (dk_at dksX9_init_0 9 rfl rfl)
theorem dX9_init_10 : decode cX9_init 10 = .ok (.iload_n 2, 1) := dk_28 (dk_at dksX9_init_0 10 rfl rfl)
theorem dX9_init_11 : decode cX9_init 11 = .ok (.putfield 13, 3) := dk_181 0 13 (dk_at dksX9_init_0 11 rfl rfl)
theorem dX9_init_14 : decode cX9_init 14 = .ok (.return_, 1) := dk_177 (dk_at dksX9_init_0 14 rfl rfl)
theorem q98 : (Jvm.Cond.initialized "PloughWills$Refused") ∈ lw_all := lw_g (lw_at lw_m1 23 rfl) rfl
theorem q456 : (Jvm.Cond.selects "PloughWills$Refused" ({ cls := "java/lang/Throwable", name := "fillInStackTrace", desc := "()Ljava/lang/Throwable;" } : Jvm.MethodName) ({ cls := "java/lang/Throwable", name := "fillInStackTrace", desc := "()Ljava/lang/Throwable;" } : Jvm.MethodName)) ∈ lw_all := lw_g (lw_at lw_m2 141 rfl) rfl
theorem q513 : (Jvm.Cond.selects "PloughWills$Refused" ({ cls := "java/lang/Object", name := "getClass", desc := "()Ljava/lang/Class;" } : Jvm.MethodName) ({ cls := "java/lang/Object", name := "getClass", desc := "()Ljava/lang/Class;" } : Jvm.MethodName)) ∈ lw_all := lw_g (lw_at lw_m2 198 rfl) rfl
theorem q1125 : (Jvm.Cond.instantiable "PloughWills$Refused" (8 : Nat)) ∈ lw_all := lw_g (lw_at lw_m5 90 rfl) rfl
theorem q1126 : (Jvm.Cond.castable "PloughWills$Refused" "PloughWills$Refused") ∈ lw_tbl := lw_at lw_m5 91 rfl
theorem q1127 : (Jvm.Cond.selects "PloughWills$Refused" ({ cls := "java/lang/Throwable", name := "fillInStackTrace", desc := "(I)Ljava/lang/Throwable;" } : Jvm.MethodName) ({ cls := "java/lang/Throwable", name := "fillInStackTrace", desc := "(I)Ljava/lang/Throwable;" } : Jvm.MethodName)) ∈ lw_all := lw_g (lw_at lw_m5 92 rfl) rfl
theorem q1128 : (Jvm.Cond.lays "PloughWills$Refused" "java/lang/Throwable" "cause" "Ljava/lang/Throwable;") ∈ lw_all := lw_g (lw_at lw_m5 93 rfl) rfl
theorem q1129 : (Jvm.Cond.lays "PloughWills$Refused" "java/lang/Throwable" "stackTrace" "[Ljava/lang/StackTraceElement;") ∈ lw_all := lw_g (lw_at lw_m5 94 rfl) rfl
theorem q1130 : (Jvm.Cond.lays "PloughWills$Refused" "java/lang/Throwable" "suppressedExceptions" "Ljava/util/List;") ∈ lw_all := lw_g (lw_at lw_m5 95 rfl) rfl
theorem q1131 : (Jvm.Cond.lays "PloughWills$Refused" "java/lang/Throwable" "detailMessage" "Ljava/lang/String;") ∈ lw_all := lw_g (lw_at lw_m5 96 rfl) rfl
theorem q1132 : (Jvm.Cond.lays "PloughWills$Refused" "java/lang/Throwable" "backtrace" "Ljava/lang/Object;") ∈ lw_all := lw_g (lw_at lw_m5 97 rfl) rfl
theorem q1134 : (Jvm.Cond.instanceMethod ({ cls := "PloughWills$Refused", name := "<init>", desc := "(II)V" } : Jvm.MethodName)) ∈ lw_all := lw_g (lw_at lw_m5 99 rfl) rfl
theorem q1135 : (Jvm.Cond.code ({ cls := "PloughWills$Refused", name := "<init>", desc := "(II)V" } : Jvm.MethodName) prog_11_method_1_code (3 : Nat) (Option.none : Option Jvm.ClassFile.FieldType)) ∈ lw_all := lw_g (lw_at lw_m5 100 rfl) rfl
theorem q1136 : (Jvm.Cond.methodLink "PloughWills$Refused" (1 : Nat) ({ cls := "java/lang/Exception", name := "<init>", desc := "()V" } : Jvm.MethodName)) ∈ lw_all := lw_g (lw_at lw_m5 101 rfl) rfl
theorem q1137 : (Jvm.Cond.fieldLink "PloughWills$Refused" (7 : Nat) "PloughWills$Refused" "reason" "I") ∈ lw_all := lw_g (lw_at lw_m5 102 rfl) rfl
theorem q1139 : (Jvm.Cond.fieldLink "PloughWills$Refused" (13 : Nat) "PloughWills$Refused" "detail" "I") ∈ lw_all := lw_g (lw_at lw_m5 104 rfl) rfl
theorem q1141 : (Jvm.Cond.laysFinal "PloughWills$Refused" "PloughWills$Refused" "reason" "I") ∈ lw_all := lw_g (lw_at lw_m5 106 rfl) rfl
theorem q1142 : (Jvm.Cond.soleField "PloughWills$Refused" "reason") ∈ lw_all := lw_g (lw_at lw_m5 107 rfl) rfl
theorem q1143 : (Jvm.Cond.laysFinal "PloughWills$Refused" "PloughWills$Refused" "detail" "I") ∈ lw_all := lw_g (lw_at lw_m5 108 rfl) rfl
theorem q1144 : (Jvm.Cond.soleField "PloughWills$Refused" "detail") ∈ lw_all := lw_g (lw_at lw_m5 109 rfl) rfl
theorem q1145 : (Jvm.Cond.lays "PloughWills$Refused" "java/lang/Throwable" "depth" "I") ∈ lw_all := lw_g (lw_at lw_m5 110 rfl) rfl
theorem q1146 : (Jvm.Cond.superclass "PloughWills$Refused" "java/lang/Exception") ∈ lw_all := lw_g (lw_at lw_m5 111 rfl) rfl
theorem q2187 : (Jvm.Cond.castable "PloughWills$Refused" "java/lang/Object") ∈ lw_tbl := lw_at lw_m9 192 rfl
theorem in_X9 : ∀ w ∈ wsX90, w ∈ lw_all := lw_in wsX90 [1128, 1129, 1130, 1131, 1132, 1145, 1141, 1143] (by decide +kernel) (by decide +kernel)
/-! PloughWills$Good -/
set_option maxRecDepth 100000
def RX10 : String := "PloughWills$Good"
abbrev cX10_init : ByteArray := prog_5_method_1_code
def yX10_init : MethodName := ⟨RX10, "<init>", "(III)V"⟩
def dkwX10_init_0 : List UInt8 := [42, 183, 0, 1, 42, 27, 181, 0, 7, 42, 28, 181, 0, 13, 42, 29, 181, 0, 16, 177]
abbrev dktX10_init_0 : List UInt8 := dkwX10_init_0 ++ []
theorem dksX10_init_0 : cX10_init.data.toList.drop 0 = dktX10_init_0 := by decide +kernel
theorem dX10_init_0 : decode cX10_init 0 = .ok (.aload_n 0, 1) := dk_42 (dk_at dksX10_init_0 0 rfl rfl)
theorem dX10_init_1 : decode cX10_init 1 = .ok (.invokespecial 1, 3) := dk_183 0 1 (dk_at dksX10_init_0 1 rfl rfl)
theorem dX10_init_4 : decode cX10_init 4 = .ok (.aload_n 0, 1) := dk_42 (dk_at dksX10_init_0 4 rfl rfl)
theorem dX10_init_5 : decode cX10_init 5 = .ok (.iload_n 1, 1) := dk_27 (dk_at dksX10_init_0 5 rfl rfl)
theorem dX10_init_6 : decode cX10_init 6 = .ok (.putfield 7, 3) := dk_181 0 7 (dk_at dksX10_init_0 6 rfl rfl)
theorem dX10_init_9 : decode cX10_init 9 = .ok (.aload_n 0, 1) := dk_42 (dk_at dksX10_init_0 9 rfl rfl)
theorem dX10_init_10 : decode cX10_init 10 = .ok (.iload_n 2, 1) := dk_28 (dk_at dksX10_init_0 10 rfl rfl)
theorem dX10_init_11 : decode cX10_init 11 = .ok (.putfield 13, 3) := dk_181 0 13 (dk_at dksX10_init_0 11 rfl rfl)
theorem dX10_init_14 : decode cX10_init 14 = .ok (.aload_n 0, 1) := dk_42 (dk_at dksX10_init_0 14 rfl rfl)
theorem dX10_init_15 : decode cX10_init 15 = .ok (.iload_n 3, 1) := dk_29 (dk_at dksX10_init_0 15 rfl rfl)
theorem dX10_init_16 : decode cX10_init 16 = .ok (.putfield 16, 3) := dk_181 0 16 (dk_at dksX10_init_0 16 rfl rfl)
theorem dX10_init_19 : decode cX10_init 19 = .ok (.return_, 1) := dk_177 (dk_at dksX10_init_0 19 rfl rfl)
theorem q99 : (Jvm.Cond.initialized "PloughWills$Good") ∈ lw_all := lw_g (lw_at lw_m1 24 rfl) rfl
theorem q1155 : (Jvm.Cond.instanceMethod ({ cls := "PloughWills$Good", name := "<init>", desc := "(III)V" } : Jvm.MethodName)) ∈ lw_all := lw_g (lw_at lw_m5 120 rfl) rfl
theorem q1156 : (Jvm.Cond.code ({ cls := "PloughWills$Good", name := "<init>", desc := "(III)V" } : Jvm.MethodName) prog_5_method_1_code (4 : Nat) (Option.none : Option Jvm.ClassFile.FieldType)) ∈ lw_all := lw_g (lw_at lw_m5 121 rfl) rfl
theorem q1157 : (Jvm.Cond.methodLink "PloughWills$Good" (1 : Nat) ({ cls := "java/lang/Object", name := "<init>", desc := "()V" } : Jvm.MethodName)) ∈ lw_all := lw_g (lw_at lw_m5 122 rfl) rfl
theorem q1158 : (Jvm.Cond.fieldLink "PloughWills$Good" (7 : Nat) "PloughWills$Good" "number" "I") ∈ lw_all := lw_g (lw_at lw_m5 123 rfl) rfl
theorem q1160 : (Jvm.Cond.fieldLink "PloughWills$Good" (13 : Nat) "PloughWills$Good" "kind" "I") ∈ lw_all := lw_g (lw_at lw_m5 125 rfl) rfl
theorem q1162 : (Jvm.Cond.fieldLink "PloughWills$Good" (16 : Nat) "PloughWills$Good" "worth" "I") ∈ lw_all := lw_g (lw_at lw_m5 127 rfl) rfl
theorem q1166 : (Jvm.Cond.soleField "PloughWills$Good" "number") ∈ lw_all := lw_g (lw_at lw_m5 131 rfl) rfl
theorem q1168 : (Jvm.Cond.soleField "PloughWills$Good" "kind") ∈ lw_all := lw_g (lw_at lw_m5 133 rfl) rfl
theorem q1170 : (Jvm.Cond.soleField "PloughWills$Good" "worth") ∈ lw_all := lw_g (lw_at lw_m5 135 rfl) rfl
theorem q2171 : (Jvm.Cond.castable "PloughWills$Good" "java/lang/Object") ∈ lw_tbl := lw_at lw_m9 176 rfl
/-! PloughWills$LinearGood -/
set_option maxRecDepth 100000
def RX11 : String := "PloughWills$LinearGood"
def TX11 : u_T := fun k => match k with
  | 0 => ("PloughWills$Good", "number", "I", true)
  | 1 => ("PloughWills$Good", "kind", "I", true)
  | _ => ("PloughWills$Good", "worth", "I", true)
def tyX11 : Nat → FieldType := fun k => match k with
  | 0 => .int
  | 1 => .int
  | _ => .int
abbrev wsX110 : List Cond := u_ws RX11 TX11 3
theorem nmX11 : ∀ a, a < 3 → ∀ b, b < 3 → a ≠ b → (TX11 a).2.1 ≠ (TX11 b).2.1 := by decide +kernel
theorem tyX11_ok : ∀ k, k < 3 → parseFieldDescriptor (TX11 k).2.2.1 = some (tyX11 k) := by decide +kernel
abbrev cX11_init : ByteArray := prog_6_method_1_code
def yX11_init : MethodName := ⟨RX11, "<init>", "(II)V"⟩
def dkwX11_init_0 : List UInt8 := [42, 27, 3, 28, 183, 0, 3, 177]
abbrev dktX11_init_0 : List UInt8 := dkwX11_init_0 ++ []
theorem dksX11_init_0 : cX11_init.data.toList.drop 0 = dktX11_init_0 := by decide +kernel
theorem dX11_init_0 : decode cX11_init 0 = .ok (.aload_n 0, 1) := dk_42 (dk_at dksX11_init_0 0 rfl rfl)
theorem dX11_init_1 : decode cX11_init 1 = .ok (.iload_n 1, 1) := dk_27 (dk_at dksX11_init_0 1 rfl rfl)
theorem dX11_init_2 : decode cX11_init 2 = .ok (.iconst 0, 1) := dk_3 (dk_at dksX11_init_0 2 rfl rfl)
theorem dX11_init_3 : decode cX11_init 3 = .ok (.iload_n 2, 1) := dk_28 (dk_at dksX11_init_0 3 rfl rfl)
theorem dX11_init_4 : decode cX11_init 4 = .ok (.invokespecial 3, 3) := dk_183 0 3 (dk_at dksX11_init_0 4 rfl rfl)
theorem dX11_init_7 : decode cX11_init 7 = .ok (.return_, 1) := dk_177 (dk_at dksX11_init_0 7 rfl rfl)
theorem q100 : (Jvm.Cond.initialized "PloughWills$LinearGood") ∈ lw_all := lw_g (lw_at lw_m1 25 rfl) rfl
theorem q508 : (Jvm.Cond.selects "PloughWills$LinearGood" ({ cls := "java/lang/Object", name := "getClass", desc := "()Ljava/lang/Class;" } : Jvm.MethodName) ({ cls := "java/lang/Object", name := "getClass", desc := "()Ljava/lang/Class;" } : Jvm.MethodName)) ∈ lw_all := lw_g (lw_at lw_m2 193 rfl) rfl
theorem q1150 : (Jvm.Cond.instantiable "PloughWills$LinearGood" (3 : Nat)) ∈ lw_all := lw_g (lw_at lw_m5 115 rfl) rfl
theorem q1152 : (Jvm.Cond.instanceMethod ({ cls := "PloughWills$LinearGood", name := "<init>", desc := "(II)V" } : Jvm.MethodName)) ∈ lw_all := lw_g (lw_at lw_m5 117 rfl) rfl
theorem q1153 : (Jvm.Cond.code ({ cls := "PloughWills$LinearGood", name := "<init>", desc := "(II)V" } : Jvm.MethodName) prog_6_method_1_code (3 : Nat) (Option.none : Option Jvm.ClassFile.FieldType)) ∈ lw_all := lw_g (lw_at lw_m5 118 rfl) rfl
theorem q1154 : (Jvm.Cond.methodLink "PloughWills$LinearGood" (3 : Nat) ({ cls := "PloughWills$Good", name := "<init>", desc := "(III)V" } : Jvm.MethodName)) ∈ lw_all := lw_g (lw_at lw_m5 119 rfl) rfl
theorem q1165 : (Jvm.Cond.laysFinal "PloughWills$LinearGood" "PloughWills$Good" "number" "I") ∈ lw_all := lw_g (lw_at lw_m5 130 rfl) rfl
theorem q1167 : (Jvm.Cond.laysFinal "PloughWills$LinearGood" "PloughWills$Good" "kind" "I") ∈ lw_all := lw_g (lw_at lw_m5 132 rfl) rfl
theorem q1169 : (Jvm.Cond.laysFinal "PloughWills$LinearGood" "PloughWills$Good" "worth" "I") ∈ lw_all := lw_g (lw_at lw_m5 134 rfl) rfl
theorem q1171 : (Jvm.Cond.superclass "PloughWills$LinearGood" "PloughWills$Good") ∈ lw_all := lw_g (lw_at lw_m5 136 rfl) rfl
theorem q2172 : (Jvm.Cond.castable "PloughWills$LinearGood" "java/lang/Object") ∈ lw_tbl := lw_at lw_m9 177 rfl
theorem q2198 : (Jvm.Cond.castable "PloughWills$LinearGood" "PloughWills$Good") ∈ lw_tbl := lw_at lw_m9 203 rfl
theorem in_X11 : ∀ w ∈ wsX110, w ∈ lw_all := lw_in wsX110 [1165, 1167, 1169] (by decide +kernel) (by decide +kernel)
/-! PloughWills$LooseGood -/
set_option maxRecDepth 100000
def RX12 : String := "PloughWills$LooseGood"
def TX12 : u_T := fun k => match k with
  | 0 => ("PloughWills$Good", "number", "I", true)
  | 1 => ("PloughWills$Good", "kind", "I", true)
  | _ => ("PloughWills$Good", "worth", "I", true)
def tyX12 : Nat → FieldType := fun k => match k with
  | 0 => .int
  | 1 => .int
  | _ => .int
abbrev wsX120 : List Cond := u_ws RX12 TX12 3
theorem nmX12 : ∀ a, a < 3 → ∀ b, b < 3 → a ≠ b → (TX12 a).2.1 ≠ (TX12 b).2.1 := by decide +kernel
theorem tyX12_ok : ∀ k, k < 3 → parseFieldDescriptor (TX12 k).2.2.1 = some (tyX12 k) := by decide +kernel
abbrev cX12_init : ByteArray := prog_7_method_1_code
def yX12_init : MethodName := ⟨RX12, "<init>", "(II)V"⟩
def dkwX12_init_0 : List UInt8 := [42, 27, 4, 28, 183, 0, 3, 177]
abbrev dktX12_init_0 : List UInt8 := dkwX12_init_0 ++ []
theorem dksX12_init_0 : cX12_init.data.toList.drop 0 = dktX12_init_0 := by decide +kernel
theorem dX12_init_0 : decode cX12_init 0 = .ok (.aload_n 0, 1) := dk_42 (dk_at dksX12_init_0 0 rfl rfl)
theorem dX12_init_1 : decode cX12_init 1 = .ok (.iload_n 1, 1) := dk_27 (dk_at dksX12_init_0 1 rfl rfl)
theorem dX12_init_2 : decode cX12_init 2 = .ok (.iconst 1, 1) := dk_4 (dk_at dksX12_init_0 2 rfl rfl)
theorem dX12_init_3 : decode cX12_init 3 = .ok (.iload_n 2, 1) := dk_28 (dk_at dksX12_init_0 3 rfl rfl)
theorem dX12_init_4 : decode cX12_init 4 = .ok (.invokespecial 3, 3) := dk_183 0 3 (dk_at dksX12_init_0 4 rfl rfl)
theorem dX12_init_7 : decode cX12_init 7 = .ok (.return_, 1) := dk_177 (dk_at dksX12_init_0 7 rfl rfl)
theorem q101 : (Jvm.Cond.initialized "PloughWills$LooseGood") ∈ lw_all := lw_g (lw_at lw_m1 26 rfl) rfl
theorem q509 : (Jvm.Cond.selects "PloughWills$LooseGood" ({ cls := "java/lang/Object", name := "getClass", desc := "()Ljava/lang/Class;" } : Jvm.MethodName) ({ cls := "java/lang/Object", name := "getClass", desc := "()Ljava/lang/Class;" } : Jvm.MethodName)) ∈ lw_all := lw_g (lw_at lw_m2 194 rfl) rfl
theorem q1172 : (Jvm.Cond.instantiable "PloughWills$LooseGood" (3 : Nat)) ∈ lw_all := lw_g (lw_at lw_m5 137 rfl) rfl
theorem q1174 : (Jvm.Cond.instanceMethod ({ cls := "PloughWills$LooseGood", name := "<init>", desc := "(II)V" } : Jvm.MethodName)) ∈ lw_all := lw_g (lw_at lw_m5 139 rfl) rfl
theorem q1175 : (Jvm.Cond.code ({ cls := "PloughWills$LooseGood", name := "<init>", desc := "(II)V" } : Jvm.MethodName) prog_7_method_1_code (3 : Nat) (Option.none : Option Jvm.ClassFile.FieldType)) ∈ lw_all := lw_g (lw_at lw_m5 140 rfl) rfl
theorem q1176 : (Jvm.Cond.methodLink "PloughWills$LooseGood" (3 : Nat) ({ cls := "PloughWills$Good", name := "<init>", desc := "(III)V" } : Jvm.MethodName)) ∈ lw_all := lw_g (lw_at lw_m5 141 rfl) rfl
theorem q1177 : (Jvm.Cond.laysFinal "PloughWills$LooseGood" "PloughWills$Good" "number" "I") ∈ lw_all := lw_g (lw_at lw_m5 142 rfl) rfl
theorem q1178 : (Jvm.Cond.laysFinal "PloughWills$LooseGood" "PloughWills$Good" "kind" "I") ∈ lw_all := lw_g (lw_at lw_m5 143 rfl) rfl
theorem q1179 : (Jvm.Cond.laysFinal "PloughWills$LooseGood" "PloughWills$Good" "worth" "I") ∈ lw_all := lw_g (lw_at lw_m5 144 rfl) rfl
theorem q1180 : (Jvm.Cond.superclass "PloughWills$LooseGood" "PloughWills$Good") ∈ lw_all := lw_g (lw_at lw_m5 145 rfl) rfl
theorem q2173 : (Jvm.Cond.castable "PloughWills$LooseGood" "java/lang/Object") ∈ lw_tbl := lw_at lw_m9 178 rfl
theorem q2199 : (Jvm.Cond.castable "PloughWills$LooseGood" "PloughWills$Good") ∈ lw_tbl := lw_at lw_m9 204 rfl
theorem in_X12 : ∀ w ∈ wsX120, w ∈ lw_all := lw_in wsX120 [1177, 1178, 1179] (by decide +kernel) (by decide +kernel)
/-! PloughWills$CommonGood -/
set_option maxRecDepth 100000
def RX13 : String := "PloughWills$CommonGood"
def TX13 : u_T := fun k => match k with
  | 0 => ("PloughWills$Good", "number", "I", true)
  | 1 => ("PloughWills$Good", "kind", "I", true)
  | _ => ("PloughWills$Good", "worth", "I", true)
def tyX13 : Nat → FieldType := fun k => match k with
  | 0 => .int
  | 1 => .int
  | _ => .int
abbrev wsX130 : List Cond := u_ws RX13 TX13 3
theorem nmX13 : ∀ a, a < 3 → ∀ b, b < 3 → a ≠ b → (TX13 a).2.1 ≠ (TX13 b).2.1 := by decide +kernel
theorem tyX13_ok : ∀ k, k < 3 → parseFieldDescriptor (TX13 k).2.2.1 = some (tyX13 k) := by decide +kernel
abbrev cX13_init : ByteArray := prog_2_method_1_code
def yX13_init : MethodName := ⟨RX13, "<init>", "(II)V"⟩
def dkwX13_init_0 : List UInt8 := [42, 27, 5, 28, 183, 0, 3, 177]
abbrev dktX13_init_0 : List UInt8 := dkwX13_init_0 ++ []
theorem dksX13_init_0 : cX13_init.data.toList.drop 0 = dktX13_init_0 := by decide +kernel
theorem dX13_init_0 : decode cX13_init 0 = .ok (.aload_n 0, 1) := dk_42 (dk_at dksX13_init_0 0 rfl rfl)
theorem dX13_init_1 : decode cX13_init 1 = .ok (.iload_n 1, 1) := dk_27 (dk_at dksX13_init_0 1 rfl rfl)
theorem dX13_init_2 : decode cX13_init 2 = .ok (.iconst 2, 1) := dk_5 (dk_at dksX13_init_0 2 rfl rfl)
theorem dX13_init_3 : decode cX13_init 3 = .ok (.iload_n 2, 1) := dk_28 (dk_at dksX13_init_0 3 rfl rfl)
theorem dX13_init_4 : decode cX13_init 4 = .ok (.invokespecial 3, 3) := dk_183 0 3 (dk_at dksX13_init_0 4 rfl rfl)
theorem dX13_init_7 : decode cX13_init 7 = .ok (.return_, 1) := dk_177 (dk_at dksX13_init_0 7 rfl rfl)
theorem q102 : (Jvm.Cond.initialized "PloughWills$CommonGood") ∈ lw_all := lw_g (lw_at lw_m1 27 rfl) rfl
theorem q505 : (Jvm.Cond.selects "PloughWills$CommonGood" ({ cls := "java/lang/Object", name := "getClass", desc := "()Ljava/lang/Class;" } : Jvm.MethodName) ({ cls := "java/lang/Object", name := "getClass", desc := "()Ljava/lang/Class;" } : Jvm.MethodName)) ∈ lw_all := lw_g (lw_at lw_m2 190 rfl) rfl
theorem q1181 : (Jvm.Cond.instantiable "PloughWills$CommonGood" (3 : Nat)) ∈ lw_all := lw_g (lw_at lw_m5 146 rfl) rfl
theorem q1183 : (Jvm.Cond.instanceMethod ({ cls := "PloughWills$CommonGood", name := "<init>", desc := "(II)V" } : Jvm.MethodName)) ∈ lw_all := lw_g (lw_at lw_m5 148 rfl) rfl
theorem q1184 : (Jvm.Cond.code ({ cls := "PloughWills$CommonGood", name := "<init>", desc := "(II)V" } : Jvm.MethodName) prog_2_method_1_code (3 : Nat) (Option.none : Option Jvm.ClassFile.FieldType)) ∈ lw_all := lw_g (lw_at lw_m5 149 rfl) rfl
theorem q1185 : (Jvm.Cond.methodLink "PloughWills$CommonGood" (3 : Nat) ({ cls := "PloughWills$Good", name := "<init>", desc := "(III)V" } : Jvm.MethodName)) ∈ lw_all := lw_g (lw_at lw_m5 150 rfl) rfl
theorem q1186 : (Jvm.Cond.laysFinal "PloughWills$CommonGood" "PloughWills$Good" "number" "I") ∈ lw_all := lw_g (lw_at lw_m5 151 rfl) rfl
theorem q1187 : (Jvm.Cond.laysFinal "PloughWills$CommonGood" "PloughWills$Good" "kind" "I") ∈ lw_all := lw_g (lw_at lw_m5 152 rfl) rfl
theorem q1188 : (Jvm.Cond.laysFinal "PloughWills$CommonGood" "PloughWills$Good" "worth" "I") ∈ lw_all := lw_g (lw_at lw_m5 153 rfl) rfl
theorem q1189 : (Jvm.Cond.superclass "PloughWills$CommonGood" "PloughWills$Good") ∈ lw_all := lw_g (lw_at lw_m5 154 rfl) rfl
theorem q2174 : (Jvm.Cond.castable "PloughWills$CommonGood" "java/lang/Object") ∈ lw_tbl := lw_at lw_m9 179 rfl
theorem q2200 : (Jvm.Cond.castable "PloughWills$CommonGood" "PloughWills$Good") ∈ lw_tbl := lw_at lw_m9 205 rfl
theorem in_X13 : ∀ w ∈ wsX130, w ∈ lw_all := lw_in wsX130 [1186, 1187, 1188] (by decide +kernel) (by decide +kernel)
/-! PloughWills$Fault -/
set_option maxRecDepth 100000
def RX14 : String := "PloughWills$Fault"
def TX14 : u_T := fun k => match k with
  | 0 => ("java/lang/Throwable", "cause", "Ljava/lang/Throwable;", false)
  | 1 => ("java/lang/Throwable", "stackTrace", "[Ljava/lang/StackTraceElement;", false)
  | 2 => ("java/lang/Throwable", "suppressedExceptions", "Ljava/util/List;", false)
  | 3 => ("java/lang/Throwable", "detailMessage", "Ljava/lang/String;", false)
  | 4 => ("java/lang/Throwable", "backtrace", "Ljava/lang/Object;", false)
  | 5 => ("java/lang/Throwable", "depth", "I", false)
  | _ => ("PloughWills$Fault", "position", "I", true)
def tyX14 : Nat → FieldType := fun k => match k with
  | 0 => .object "java/lang/Throwable"
  | 1 => .array (.object "java/lang/StackTraceElement")
  | 2 => .object "java/util/List"
  | 3 => .object "java/lang/String"
  | 4 => .object "java/lang/Object"
  | 5 => .int
  | _ => .int
abbrev wsX140 : List Cond := u_ws RX14 TX14 7
theorem nmX14 : ∀ a, a < 7 → ∀ b, b < 7 → a ≠ b → (TX14 a).2.1 ≠ (TX14 b).2.1 := by decide +kernel
theorem tyX14_ok : ∀ k, k < 7 → parseFieldDescriptor (TX14 k).2.2.1 = some (tyX14 k) := by decide +kernel
abbrev cX14_init : ByteArray := prog_3_method_1_code
def yX14_init : MethodName := ⟨RX14, "<init>", "(I)V"⟩
def dkwX14_init_0 : List UInt8 := [42, 183, 0, 1, 42, 27, 181, 0, 7, 177]
abbrev dktX14_init_0 : List UInt8 := dkwX14_init_0 ++ []
theorem dksX14_init_0 : cX14_init.data.toList.drop 0 = dktX14_init_0 := by decide +kernel
theorem dX14_init_0 : decode cX14_init 0 = .ok (.aload_n 0, 1) := dk_42 (dk_at dksX14_init_0 0 rfl rfl)
theorem dX14_init_1 : decode cX14_init 1 = .ok (.invokespecial 1, 3) := dk_183 0 1 (dk_at dksX14_init_0 1 rfl rfl)
theorem dX14_init_4 : decode cX14_init 4 = .ok (.aload_n 0, 1) := dk_42 (dk_at dksX14_init_0 4 rfl rfl)
theorem dX14_init_5 : decode cX14_init 5 = .ok (.iload_n 1, 1) := dk_27 (dk_at dksX14_init_0 5 rfl rfl)
theorem dX14_init_6 : decode cX14_init 6 = .ok (.putfield 7, 3) := dk_181 0 7 (dk_at dksX14_init_0 6 rfl rfl)
theorem dX14_init_9 : decode cX14_init 9 = .ok (.return_, 1) := dk_177 (dk_at dksX14_init_0 9 rfl rfl)
theorem q116 : (Jvm.Cond.initialized "PloughWills$Fault") ∈ lw_all := lw_g (lw_at lw_m1 41 rfl) rfl
theorem q455 : (Jvm.Cond.selects "PloughWills$Fault" ({ cls := "java/lang/Throwable", name := "fillInStackTrace", desc := "()Ljava/lang/Throwable;" } : Jvm.MethodName) ({ cls := "java/lang/Throwable", name := "fillInStackTrace", desc := "()Ljava/lang/Throwable;" } : Jvm.MethodName)) ∈ lw_all := lw_g (lw_at lw_m2 140 rfl) rfl
theorem q506 : (Jvm.Cond.selects "PloughWills$Fault" ({ cls := "java/lang/Object", name := "getClass", desc := "()Ljava/lang/Class;" } : Jvm.MethodName) ({ cls := "java/lang/Object", name := "getClass", desc := "()Ljava/lang/Class;" } : Jvm.MethodName)) ∈ lw_all := lw_g (lw_at lw_m2 191 rfl) rfl
theorem q1613 : (Jvm.Cond.instantiable "PloughWills$Fault" (7 : Nat)) ∈ lw_all := lw_g (lw_at lw_m7 98 rfl) rfl
theorem q1614 : (Jvm.Cond.castable "PloughWills$Fault" "PloughWills$Fault") ∈ lw_tbl := lw_at lw_m7 99 rfl
theorem q1615 : (Jvm.Cond.selects "PloughWills$Fault" ({ cls := "java/lang/Throwable", name := "fillInStackTrace", desc := "(I)Ljava/lang/Throwable;" } : Jvm.MethodName) ({ cls := "java/lang/Throwable", name := "fillInStackTrace", desc := "(I)Ljava/lang/Throwable;" } : Jvm.MethodName)) ∈ lw_all := lw_g (lw_at lw_m7 100 rfl) rfl
theorem q1616 : (Jvm.Cond.lays "PloughWills$Fault" "java/lang/Throwable" "cause" "Ljava/lang/Throwable;") ∈ lw_all := lw_g (lw_at lw_m7 101 rfl) rfl
theorem q1617 : (Jvm.Cond.lays "PloughWills$Fault" "java/lang/Throwable" "stackTrace" "[Ljava/lang/StackTraceElement;") ∈ lw_all := lw_g (lw_at lw_m7 102 rfl) rfl
theorem q1618 : (Jvm.Cond.lays "PloughWills$Fault" "java/lang/Throwable" "suppressedExceptions" "Ljava/util/List;") ∈ lw_all := lw_g (lw_at lw_m7 103 rfl) rfl
theorem q1619 : (Jvm.Cond.lays "PloughWills$Fault" "java/lang/Throwable" "detailMessage" "Ljava/lang/String;") ∈ lw_all := lw_g (lw_at lw_m7 104 rfl) rfl
theorem q1620 : (Jvm.Cond.lays "PloughWills$Fault" "java/lang/Throwable" "backtrace" "Ljava/lang/Object;") ∈ lw_all := lw_g (lw_at lw_m7 105 rfl) rfl
theorem q1622 : (Jvm.Cond.instanceMethod ({ cls := "PloughWills$Fault", name := "<init>", desc := "(I)V" } : Jvm.MethodName)) ∈ lw_all := lw_g (lw_at lw_m7 107 rfl) rfl
theorem q1623 : (Jvm.Cond.code ({ cls := "PloughWills$Fault", name := "<init>", desc := "(I)V" } : Jvm.MethodName) prog_3_method_1_code (2 : Nat) (Option.none : Option Jvm.ClassFile.FieldType)) ∈ lw_all := lw_g (lw_at lw_m7 108 rfl) rfl
theorem q1624 : (Jvm.Cond.methodLink "PloughWills$Fault" (1 : Nat) ({ cls := "java/lang/RuntimeException", name := "<init>", desc := "()V" } : Jvm.MethodName)) ∈ lw_all := lw_g (lw_at lw_m7 109 rfl) rfl
theorem q1625 : (Jvm.Cond.fieldLink "PloughWills$Fault" (7 : Nat) "PloughWills$Fault" "position" "I") ∈ lw_all := lw_g (lw_at lw_m7 110 rfl) rfl
theorem q1627 : (Jvm.Cond.laysFinal "PloughWills$Fault" "PloughWills$Fault" "position" "I") ∈ lw_all := lw_g (lw_at lw_m7 112 rfl) rfl
theorem q1628 : (Jvm.Cond.soleField "PloughWills$Fault" "position") ∈ lw_all := lw_g (lw_at lw_m7 113 rfl) rfl
theorem q1629 : (Jvm.Cond.lays "PloughWills$Fault" "java/lang/Throwable" "depth" "I") ∈ lw_all := lw_g (lw_at lw_m7 114 rfl) rfl
theorem q1630 : (Jvm.Cond.superclass "PloughWills$Fault" "java/lang/RuntimeException") ∈ lw_all := lw_g (lw_at lw_m7 115 rfl) rfl
theorem q2195 : (Jvm.Cond.castable "PloughWills$Fault" "java/lang/Object") ∈ lw_tbl := lw_at lw_m9 200 rfl
theorem in_X14 : ∀ w ∈ wsX140, w ∈ lw_all := lw_in wsX140 [1616, 1617, 1618, 1619, 1620, 1629, 1627] (by decide +kernel) (by decide +kernel)
