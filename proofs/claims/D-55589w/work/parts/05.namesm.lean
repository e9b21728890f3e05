/-! PloughWillsModel -/
set_option maxRecDepth 100000
def RX8 : String := "PloughWillsModel"
def TX8 : u_T := fun k => match k with
  | 0 => ("PloughWillsModel", "s", "[I", true)
  | 1 => ("PloughWillsModel", "before", "[I", true)
  | 2 => ("PloughWillsModel", "saved", "[I", true)
  | 3 => ("PloughWillsModel", "isSaved", "Z", false)
  | 4 => ("PloughWillsModel", "past", "[I", true)
  | 5 => ("PloughWillsModel", "pastMany", "I", false)
  | 6 => ("PloughWillsModel", "thrown", "I", false)
  | 7 => ("PloughWillsModel", "reason", "I", false)
  | 8 => ("PloughWillsModel", "detail", "I", false)
  | 9 => ("PloughWillsModel", "open", "[I", true)
  | 10 => ("PloughWillsModel", "begun", "[I", true)
  | 11 => ("PloughWillsModel", "around", "[I", true)
  | 12 => ("PloughWillsModel", "middle", "[I", true)
  | 13 => ("PloughWillsModel", "end", "[I", true)
  | 14 => ("PloughWillsModel", "deepest", "I", false)
  | 15 => ("PloughWillsModel", "so", "[I", true)
  | 16 => ("PloughWillsModel", "starts", "[I", true)
  | 17 => ("PloughWillsModel", "firsts", "[I", true)
  | 18 => ("PloughWillsModel", "deep", "I", false)
  | 19 => ("PloughWillsModel", "wrongReason", "I", false)
  | 20 => ("PloughWillsModel", "wrongPlace", "I", false)
  | 21 => ("PloughWillsModel", "wrongDetail", "I", false)
  | 22 => ("PloughWillsModel", "isOn", "[Z", true)
  | 23 => ("PloughWillsModel", "choicesMet", "I", false)
  | 24 => ("PloughWillsModel", "left", "I", false)
  | 25 => ("PloughWillsModel", "line", "[C", true)
  | 26 => ("PloughWillsModel", "lineMany", "I", false)
  | 27 => ("PloughWillsModel", "text", "[C", true)
  | 28 => ("PloughWillsModel", "length", "I", false)
  | 29 => ("PloughWillsModel", "error", "I", false)
  | _ => ("PloughWillsModel", "told", "[I", true)
def tyX8 : Nat → FieldType := fun k => match k with
  | 0 => .array .int
  | 1 => .array .int
  | 2 => .array .int
  | 3 => .boolean
  | 4 => .array .int
  | 5 => .int
  | 6 => .int
  | 7 => .int
  | 8 => .int
  | 9 => .array .int
  | 10 => .array .int
  | 11 => .array .int
  | 12 => .array .int
  | 13 => .array .int
  | 14 => .int
  | 15 => .array .int
  | 16 => .array .int
  | 17 => .array .int
  | 18 => .int
  | 19 => .int
  | 20 => .int
  | 21 => .int
  | 22 => .array .boolean
  | 23 => .int
  | 24 => .int
  | 25 => .array .char
  | 26 => .int
  | 27 => .array .char
  | 28 => .int
  | 29 => .int
  | _ => .array .int
abbrev wsX80 : List Cond := u_ws RX8 TX8 31
set_option maxRecDepth 100000 in
theorem nmX8 : ∀ a, a < 31 → ∀ b, b < 31 → a ≠ b → (TX8 a).2.1 ≠ (TX8 b).2.1 := by decide +kernel
set_option maxRecDepth 100000 in
theorem tyX8_ok : ∀ k, k < 31 → parseFieldDescriptor (TX8 k).2.2.1 = some (tyX8 k) := by decide +kernel
abbrev cX8_init : ByteArray := prog_15_method_1_code
def yX8_init : MethodName := ⟨RX8, "<init>", "()V"⟩
def dkwX8_init_7 : List UInt8 := [167, 255, 238, 177]
abbrev dktX8_init_7 : List UInt8 := dkwX8_init_7 ++ []
def dkwX8_init_6 : List UInt8 := [181, 0, 61, 3, 60, 27, 6, 162, 0, 19, 42, 180, 0, 9, 6, 27, 96, 16, 10, 79, 132, 1, 1]
abbrev dktX8_init_6 : List UInt8 := dkwX8_init_6 ++ dktX8_init_7
def dkwX8_init_5 : List UInt8 := [181, 0, 50, 42, 16, 60, 188, 5, 181, 0, 54, 42, 2, 181, 0, 57, 42, 17, 0, 180, 188, 10]
abbrev dktX8_init_5 : List UInt8 := dkwX8_init_5 ++ dktX8_init_6
def dkwX8_init_4 : List UInt8 := [42, 17, 3, 7, 188, 10, 181, 0, 43, 42, 16, 24, 188, 4, 181, 0, 46, 42, 16, 72, 188, 5]
abbrev dktX8_init_4 : List UInt8 := dkwX8_init_4 ++ dktX8_init_5
def dkwX8_init_3 : List UInt8 := [16, 24, 188, 10, 181, 0, 34, 42, 16, 31, 188, 10, 181, 0, 37, 42, 17, 3, 7, 188, 10, 181, 0, 40]
abbrev dktX8_init_3 : List UInt8 := dkwX8_init_3 ++ dktX8_init_4
def dkwX8_init_2 : List UInt8 := [16, 25, 188, 10, 181, 0, 25, 42, 16, 24, 188, 10, 181, 0, 28, 42, 16, 24, 188, 10, 181, 0, 31, 42]
abbrev dktX8_init_2 : List UInt8 := dkwX8_init_2 ++ dktX8_init_3
def dkwX8_init_1 : List UInt8 := [188, 10, 181, 0, 16, 42, 17, 3, 104, 188, 10, 181, 0, 19, 42, 16, 25, 188, 10, 181, 0, 22, 42]
abbrev dktX8_init_1 : List UInt8 := dkwX8_init_1 ++ dktX8_init_2
def dkwX8_init_0 : List UInt8 := [42, 183, 0, 3, 42, 16, 109, 188, 10, 181, 0, 9, 42, 16, 109, 188, 10, 181, 0, 13, 42, 16, 109]
abbrev dktX8_init_0 : List UInt8 := dkwX8_init_0 ++ dktX8_init_1
theorem dksX8_init_0 : cX8_init.data.toList.drop 0 = dktX8_init_0 := by decide +kernel
theorem dksX8_init_1 : cX8_init.data.toList.drop 23 = dktX8_init_1 := dk_seg dksX8_init_0 23 rfl rfl
theorem dksX8_init_2 : cX8_init.data.toList.drop 46 = dktX8_init_2 := dk_seg dksX8_init_1 23 rfl rfl
theorem dksX8_init_3 : cX8_init.data.toList.drop 70 = dktX8_init_3 := dk_seg dksX8_init_2 24 rfl rfl
theorem dksX8_init_4 : cX8_init.data.toList.drop 94 = dktX8_init_4 := dk_seg dksX8_init_3 24 rfl rfl
theorem dksX8_init_5 : cX8_init.data.toList.drop 116 = dktX8_init_5 := dk_seg dksX8_init_4 22 rfl rfl
theorem dksX8_init_6 : cX8_init.data.toList.drop 138 = dktX8_init_6 := dk_seg dksX8_init_5 22 rfl rfl
theorem dksX8_init_7 : cX8_init.data.toList.drop 161 = dktX8_init_7 := dk_seg dksX8_init_6 23 rfl rfl
theorem dX8_init_0 : decode cX8_init 0 = .ok (.aload_n 0, 1) := dk_42 (dk_at dksX8_init_0 0 rfl rfl)
theorem dX8_init_1 : decode cX8_init 1 = .ok (.invokespecial 3, 3) := dk_183 0 3 (dk_at dksX8_init_0 1 rfl rfl)
theorem dX8_init_4 : decode cX8_init 4 = .ok (.aload_n 0, 1) := dk_42 (dk_at dksX8_init_0 4 rfl rfl)
theorem dX8_init_5 : decode cX8_init 5 = .ok (.bipush 109, 2) := dk_16 109 (dk_at dksX8_init_0 5 rfl rfl)
theorem dX8_init_7 : decode cX8_init 7 = .ok (.newarray .int, 2) := dk_188_10 (dk_at dksX8_init_0 7 rfl rfl)
theorem dX8_init_9 : decode cX8_init 9 = .ok (.putfield 9, 3) := dk_181 0 9 (dk_at dksX8_init_0 9 rfl rfl)
theorem dX8_init_12 : decode cX8_init 12 = .ok (.aload_n 0, 1) := dk_42 (dk_at dksX8_init_0 12 rfl rfl)
theorem dX8_init_13 : decode cX8_init 13 = .ok (.bipush 109, 2) := dk_16 109 (dk_at dksX8_init_0 13 rfl rfl)
theorem dX8_init_15 : decode cX8_init 15 = .ok (.newarray .int, 2) := dk_188_10 (dk_at dksX8_init_0 15 rfl rfl)
theorem dX8_init_17 : decode cX8_init 17 = .ok (.putfield 13, 3) := dk_181 0 13 (dk_at dksX8_init_0 17 rfl rfl)
theorem dX8_init_20 : decode cX8_init 20 = .ok (.aload_n 0, 1) := dk_42 (dk_at dksX8_init_0 20 rfl rfl)
theorem dX8_init_21 : decode cX8_init 21 = .ok (.bipush 109, 2) := dk_16 109 (dk_at dksX8_init_0 21 rfl rfl)
theorem dX8_init_23 : decode cX8_init 23 = .ok (.newarray .int, 2) := dk_188_10 (dk_at dksX8_init_1 0 rfl rfl)
theorem dX8_init_25 : decode cX8_init 25 = .ok (.putfield 16, 3) := dk_181 0 16 (dk_at dksX8_init_1 2 rfl rfl)
theorem dX8_init_28 : decode cX8_init 28 = .ok (.aload_n 0, 1) := dk_42 (dk_at dksX8_init_1 5 rfl rfl)
theorem dX8_init_29 : decode cX8_init 29 = .ok (.sipush 872, 3) := dk_17 3 104 (dk_at dksX8_init_1 6 rfl rfl)
theorem dX8_init_32 : decode cX8_init 32 = .ok (.newarray .int, 2) := dk_188_10 (dk_at dksX8_init_1 9 rfl rfl)
theorem dX8_init_34 : decode cX8_init 34 = .ok (.putfield 19, 3) := dk_181 0 19 (dk_at dksX8_init_1 11 rfl rfl)
theorem dX8_init_37 : decode cX8_init 37 = .ok (.aload_n 0, 1) := dk_42 (dk_at dksX8_init_1 14 rfl rfl)
theorem dX8_init_38 : decode cX8_init 38 = .ok (.bipush 25, 2) := dk_16 25 (dk_at dksX8_init_1 15 rfl rfl)
theorem dX8_init_40 : decode cX8_init 40 = .ok (.newarray .int, 2) := dk_188_10 (dk_at dksX8_init_1 17 rfl rfl)
theorem dX8_init_42 : decode cX8_init 42 = .ok (.putfield 22, 3) := dk_181 0 22 (dk_at dksX8_init_1 19 rfl rfl)
theorem dX8_init_45 : decode cX8_init 45 = .ok (.aload_n 0, 1) := dk_42 (dk_at dksX8_init_1 22 rfl rfl)
theorem dX8_init_46 : decode cX8_init 46 = .ok (.bipush 25, 2) := dk_16 25 (dk_at dksX8_init_2 0 rfl rfl)
theorem dX8_init_48 : decode cX8_init 48 = .ok (.newarray .int, 2) := dk_188_10 (dk_at dksX8_init_2 2 rfl rfl)
theorem dX8_init_50 : decode cX8_init 50 = .ok (.putfield 25, 3) := dk_181 0 25 (dk_at dksX8_init_2 4 rfl rfl)
theorem dX8_init_53 : decode cX8_init 53 = .ok (.aload_n 0, 1) := dk_42 (dk_at dksX8_init_2 7 rfl rfl)
theorem dX8_init_54 : decode cX8_init 54 = .ok (.bipush 24, 2) := dk_16 24 (dk_at dksX8_init_2 8 rfl rfl)
theorem dX8_init_56 : decode cX8_init 56 = .ok (.newarray .int, 2) := dk_188_10 (dk_at dksX8_init_2 10 rfl rfl)
theorem dX8_init_58 : decode cX8_init 58 = .ok (.putfield 28, 3) := dk_181 0 28 (dk_at dksX8_init_2 12 rfl rfl)
theorem dX8_init_61 : decode cX8_init 61 = .ok (.aload_n 0, 1) := dk_42 (dk_at dksX8_init_2 15 rfl rfl)
theorem dX8_init_62 : decode cX8_init 62 = .ok (.bipush 24, 2) := dk_16 24 (dk_at dksX8_init_2 16 rfl rfl)
theorem dX8_init_64 : decode cX8_init 64 = .ok (.newarray .int, 2) := dk_188_10 (dk_at dksX8_init_2 18 rfl rfl)
theorem dX8_init_66 : decode cX8_init 66 = .ok (.putfield 31, 3) := dk_181 0 31 (dk_at dksX8_init_2 20 rfl rfl)
theorem dX8_init_69 : decode cX8_init 69 = .ok (.aload_n 0, 1) := dk_42 (dk_at dksX8_init_2 23 rfl rfl)
theorem dX8_init_70 : decode cX8_init 70 = .ok (.bipush 24, 2) := dk_16 24 (dk_at dksX8_init_3 0 rfl rfl)
theorem dX8_init_72 : decode cX8_init 72 = .ok (.newarray .int, 2) := dk_188_10 (dk_at dksX8_init_3 2 rfl rfl)
theorem dX8_init_74 : decode cX8_init 74 = .ok (.putfield 34, 3) := dk_181 0 34 (dk_at dksX8_init_3 4 rfl rfl)
theorem dX8_init_77 : decode cX8_init 77 = .ok (.aload_n 0, 1) := dk_42 (dk_at dksX8_init_3 7 rfl rfl)
theorem dX8_init_78 : decode cX8_init 78 = .ok (.bipush 31, 2) := dk_16 31 (dk_at dksX8_init_3 8 rfl rfl)
theorem dX8_init_80 : decode cX8_init 80 = .ok (.newarray .int, 2) := dk_188_10 (dk_at dksX8_init_3 10 rfl rfl)
theorem dX8_init_82 : decode cX8_init 82 = .ok (.putfield 37, 3) := dk_181 0 37 (dk_at dksX8_init_3 12 rfl rfl)
theorem dX8_init_85 : decode cX8_init 85 = .ok (.aload_n 0, 1) := dk_42 (dk_at dksX8_init_3 15 rfl rfl)
theorem dX8_init_86 : decode cX8_init 86 = .ok (.sipush 775, 3) := dk_17 3 7 (dk_at dksX8_init_3 16 rfl rfl)
theorem dX8_init_89 : decode cX8_init 89 = .ok (.newarray .int, 2) := dk_188_10 (dk_at dksX8_init_3 19 rfl rfl)
theorem dX8_init_91 : decode cX8_init 91 = .ok (.putfield 40, 3) := dk_181 0 40 (dk_at dksX8_init_3 21 rfl rfl)
theorem dX8_init_94 : decode cX8_init 94 = .ok (.aload_n 0, 1) := dk_42 (dk_at dksX8_init_4 0 rfl rfl)
theorem dX8_init_95 : decode cX8_init 95 = .ok (.sipush 775, 3) := dk_17 3 7 (dk_at dksX8_init_4 1 rfl rfl)
theorem dX8_init_98 : decode cX8_init 98 = .ok (.newarray .int, 2) := dk_188_10 (dk_at dksX8_init_4 4 rfl rfl)
theorem dX8_init_100 : decode cX8_init 100 = .ok (.putfield 43, 3) := dk_181 0 43 (dk_at dksX8_init_4 6 rfl rfl)
theorem dX8_init_103 : decode cX8_init 103 = .ok (.aload_n 0, 1) := dk_42 (dk_at dksX8_init_4 9 rfl rfl)
theorem dX8_init_104 : decode cX8_init 104 = .ok (.bipush 24, 2) := dk_16 24 (dk_at dksX8_init_4 10 rfl rfl)
theorem dX8_init_106 : decode cX8_init 106 = .ok (.newarray .boolean, 2) := dk_188_4 (dk_at dksX8_init_4 12 rfl rfl)
theorem dX8_init_108 : decode cX8_init 108 = .ok (.putfield 46, 3) := dk_181 0 46 (dk_at dksX8_init_4 14 rfl rfl)
theorem dX8_init_111 : decode cX8_init 111 = .ok (.aload_n 0, 1) := dk_42 (dk_at dksX8_init_4 17 rfl rfl)
theorem dX8_init_112 : decode cX8_init 112 = .ok (.bipush 72, 2) := dk_16 72 (dk_at dksX8_init_4 18 rfl rfl)
theorem dX8_init_114 : decode cX8_init 114 = .ok (.newarray .char, 2) := dk_188_5 (dk_at dksX8_init_4 20 rfl rfl)
theorem dX8_init_116 : decode cX8_init 116 = .ok (.putfield 50, 3) := dk_181 0 50 (dk_at dksX8_init_5 0 rfl rfl)
theorem dX8_init_119 : decode cX8_init 119 = .ok (.aload_n 0, 1) := dk_42 (dk_at dksX8_init_5 3 rfl rfl)
theorem dX8_init_120 : decode cX8_init 120 = .ok (.bipush 60, 2) := dk_16 60 (dk_at dksX8_init_5 4 rfl rfl)
theorem dX8_init_122 : decode cX8_init 122 = .ok (.newarray .char, 2) := dk_188_5 (dk_at dksX8_init_5 6 rfl rfl)
theorem dX8_init_124 : decode cX8_init 124 = .ok (.putfield 54, 3) := dk_181 0 54 (dk_at dksX8_init_5 8 rfl rfl)
theorem dX8_init_127 : decode cX8_init 127 = .ok (.aload_n 0, 1) := dk_42 (dk_at dksX8_init_5 11 rfl rfl)
theorem dX8_init_128 : decode cX8_init 128 = .ok (.iconst (-1), 1) := dk_2 (dk_at dksX8_init_5 12 rfl rfl)
theorem dX8_init_129 : decode cX8_init 129 = .ok (.putfield 57, 3) := dk_181 0 57 (dk_at dksX8_init_5 13 rfl rfl)
theorem dX8_init_132 : decode cX8_init 132 = .ok (.aload_n 0, 1) := dk_42 (dk_at dksX8_init_5 16 rfl rfl)
theorem dX8_init_133 : decode cX8_init 133 = .ok (.sipush 180, 3) := dk_17 0 180 (dk_at dksX8_init_5 17 rfl rfl)
theorem dX8_init_136 : decode cX8_init 136 = .ok (.newarray .int, 2) := dk_188_10 (dk_at dksX8_init_5 20 rfl rfl)
theorem dX8_init_138 : decode cX8_init 138 = .ok (.putfield 61, 3) := dk_181 0 61 (dk_at dksX8_init_6 0 rfl rfl)
theorem dX8_init_141 : decode cX8_init 141 = .ok (.iconst 0, 1) := dk_3 (dk_at dksX8_init_6 3 rfl rfl)
theorem dX8_init_142 : decode cX8_init 142 = .ok (.istore_n 1, 1) := dk_60 (dk_at dksX8_init_6 4 rfl rfl)
theorem dX8_init_143 : decode cX8_init 143 = .ok (.iload_n 1, 1) := dk_27 (dk_at dksX8_init_6 5 rfl rfl)
theorem dX8_init_144 : decode cX8_init 144 = .ok (.iconst 3, 1) := dk_6 (dk_at dksX8_init_6 6 rfl rfl)
theorem dX8_init_145 : decode cX8_init 145 = .ok (.if_icmp .ge 19, 3) := dk_162 0 19 (dk_at dksX8_init_6 7 rfl rfl)
theorem dX8_init_148 : decode cX8_init 148 = .ok (.aload_n 0, 1) := dk_42 (dk_at dksX8_init_6 10 rfl rfl)
theorem dX8_init_149 : decode cX8_init 149 = .ok (.getfield 9, 3) := dk_180 0 9 (dk_at dksX8_init_6 11 rfl rfl)
theorem dX8_init_152 : decode cX8_init 152 = .ok (.iconst 3, 1) := dk_6 (dk_at dksX8_init_6 14 rfl rfl)
theorem dX8_init_153 : decode cX8_init 153 = .ok (.iload_n 1, 1) := dk_27 (dk_at dksX8_init_6 15 rfl rfl)
theorem dX8_init_154 : decode cX8_init 154 = .ok (.iadd, 1) := dk_96 (dk_at dksX8_init_6 16 rfl rfl)
theorem dX8_init_155 : decode cX8_init 155 = .ok (.bipush 10, 2) := dk_16 10 (dk_at dksX8_init_6 17 rfl rfl)
theorem dX8_init_157 : decode cX8_init 157 = .ok (.iastore, 1) := dk_79 (dk_at dksX8_init_6 19 rfl rfl)
theorem dX8_init_158 : decode cX8_init 158 = .ok (.iinc 1 1, 3) := dk_132 1 1 (dk_at dksX8_init_6 20 rfl rfl)
theorem dX8_init_161 : decode cX8_init 161 = .ok (.goto (-18), 3) := dk_167 255 238 (dk_at dksX8_init_7 0 rfl rfl)
theorem dX8_init_164 : decode cX8_init 164 = .ok (.return_, 1) := dk_177 (dk_at dksX8_init_7 3 rfl rfl)
abbrev cX8_thrown : ByteArray := prog_15_method_2_code
def yX8_thrown : MethodName := ⟨RX8, "thrown", "()I"⟩
theorem dX8_thrown_0 : decode cX8_thrown 0 = .ok (.aload_n 0, 1) := by decide +kernel
theorem dX8_thrown_1 : decode cX8_thrown 1 = .ok (.getfield 64, 3) := by decide +kernel
theorem dX8_thrown_4 : decode cX8_thrown 4 = .ok (.ireturn, 1) := by decide +kernel
abbrev cX8_refusal : ByteArray := prog_15_method_8_code
def yX8_refusal : MethodName := ⟨RX8, "refusal", "(Z)I"⟩
def dkwX8_refusal_1 : List UInt8 := [167, 0, 18, 27, 153, 0, 10, 42, 180, 0, 79, 167, 0, 7, 42, 180, 0, 76, 172]
abbrev dktX8_refusal_1 : List UInt8 := dkwX8_refusal_1 ++ []
def dkwX8_refusal_0 : List UInt8 := [42, 42, 180, 0, 76, 154, 0, 7, 4, 167, 0, 4, 3, 181, 0, 64, 42, 180, 0, 64, 158, 0, 7, 3]
abbrev dktX8_refusal_0 : List UInt8 := dkwX8_refusal_0 ++ dktX8_refusal_1
theorem dksX8_refusal_0 : cX8_refusal.data.toList.drop 0 = dktX8_refusal_0 := by decide +kernel
theorem dksX8_refusal_1 : cX8_refusal.data.toList.drop 24 = dktX8_refusal_1 := dk_seg dksX8_refusal_0 24 rfl rfl
theorem dX8_refusal_0 : decode cX8_refusal 0 = .ok (.aload_n 0, 1) := dk_42 (dk_at dksX8_refusal_0 0 rfl rfl)
theorem dX8_refusal_1 : decode cX8_refusal 1 = .ok (.aload_n 0, 1) := dk_42 (dk_at dksX8_refusal_0 1 rfl rfl)
theorem dX8_refusal_2 : decode cX8_refusal 2 = .ok (.getfield 76, 3) := dk_180 0 76 (dk_at dksX8_refusal_0 2 rfl rfl)
theorem dX8_refusal_5 : decode cX8_refusal 5 = .ok (.ifCond .ne 7, 3) := dk_154 0 7 (dk_at dksX8_refusal_0 5 rfl rfl)
theorem dX8_refusal_8 : decode cX8_refusal 8 = .ok (.iconst 1, 1) := dk_4 (dk_at dksX8_refusal_0 8 rfl rfl)
theorem dX8_refusal_9 : decode cX8_refusal 9 = .ok (.goto 4, 3) := dk_167 0 4 (dk_at dksX8_refusal_0 9 rfl rfl)
theorem dX8_refusal_12 : decode cX8_refusal 12 = .ok (.iconst 0, 1) := dk_3 (dk_at dksX8_refusal_0 12 rfl rfl)
theorem dX8_refusal_13 : decode cX8_refusal 13 = .ok (.putfield 64, 3) := dk_181 0 64 (dk_at dksX8_refusal_0 13 rfl rfl)
theorem dX8_refusal_16 : decode cX8_refusal 16 = .ok (.aload_n 0, 1) := dk_42 (dk_at dksX8_refusal_0 16 rfl rfl)
theorem dX8_refusal_17 : decode cX8_refusal 17 = .ok (.getfield 64, 3) := dk_180 0 64 (dk_at dksX8_refusal_0 17 rfl rfl)
theorem dX8_refusal_20 : decode cX8_refusal 20 = .ok (.ifCond .le 7, 3) := dk_158 0 7 (dk_at dksX8_refusal_0 20 rfl rfl)
theorem dX8_refusal_23 : decode cX8_refusal 23 = .ok (.iconst 0, 1) := dk_3 (dk_at dksX8_refusal_0 23 rfl rfl)
theorem dX8_refusal_24 : decode cX8_refusal 24 = .ok (.goto 18, 3) := dk_167 0 18 (dk_at dksX8_refusal_1 0 rfl rfl)
theorem dX8_refusal_27 : decode cX8_refusal 27 = .ok (.iload_n 1, 1) := dk_27 (dk_at dksX8_refusal_1 3 rfl rfl)
theorem dX8_refusal_28 : decode cX8_refusal 28 = .ok (.ifCond .eq 10, 3) := dk_153 0 10 (dk_at dksX8_refusal_1 4 rfl rfl)
theorem dX8_refusal_31 : decode cX8_refusal 31 = .ok (.aload_n 0, 1) := dk_42 (dk_at dksX8_refusal_1 7 rfl rfl)
theorem dX8_refusal_32 : decode cX8_refusal 32 = .ok (.getfield 79, 3) := dk_180 0 79 (dk_at dksX8_refusal_1 8 rfl rfl)
theorem dX8_refusal_35 : decode cX8_refusal 35 = .ok (.goto 7, 3) := dk_167 0 7 (dk_at dksX8_refusal_1 11 rfl rfl)
theorem dX8_refusal_38 : decode cX8_refusal 38 = .ok (.aload_n 0, 1) := dk_42 (dk_at dksX8_refusal_1 14 rfl rfl)
theorem dX8_refusal_39 : decode cX8_refusal 39 = .ok (.getfield 76, 3) := dk_180 0 76 (dk_at dksX8_refusal_1 15 rfl rfl)
theorem dX8_refusal_42 : decode cX8_refusal 42 = .ok (.ireturn, 1) := dk_172 (dk_at dksX8_refusal_1 18 rfl rfl)
abbrev cX8_good : ByteArray := prog_15_method_11_code
def yX8_good : MethodName := ⟨RX8, "good", "(II)I"⟩
def dkwX8_good_4 : List UInt8 := [172]
abbrev dktX8_good_4 : List UInt8 := dkwX8_good_4 ++ []
def dkwX8_good_3 : List UInt8 := [180, 0, 9, 16, 29, 29, 96, 28, 79, 42, 180, 0, 9, 3, 92, 46, 4, 96, 79, 42, 29, 182, 0, 93]
abbrev dktX8_good_3 : List UInt8 := dkwX8_good_3 ++ dktX8_good_4
def dkwX8_good_2 : List UInt8 := [5, 4, 16, 8, 182, 0, 96, 182, 0, 93, 172, 42, 180, 0, 9, 16, 21, 29, 96, 27, 79, 42]
abbrev dktX8_good_2 : List UInt8 := dkwX8_good_2 ++ dktX8_good_3
def dkwX8_good_1 : List UInt8 := [184, 0, 82, 154, 0, 13, 42, 42, 4, 182, 0, 89, 182, 0, 93, 172, 29, 16, 8, 160, 0, 16, 42, 42]
abbrev dktX8_good_1 : List UInt8 := dkwX8_good_1 ++ dktX8_good_2
def dkwX8_good_0 : List UInt8 := [42, 182, 0, 86, 42, 180, 0, 9, 3, 46, 62, 27, 3, 5, 184, 0, 82, 153, 0, 13, 28, 4, 16, 99]
abbrev dktX8_good_0 : List UInt8 := dkwX8_good_0 ++ dktX8_good_1
theorem dksX8_good_0 : cX8_good.data.toList.drop 0 = dktX8_good_0 := by decide +kernel
theorem dksX8_good_1 : cX8_good.data.toList.drop 24 = dktX8_good_1 := dk_seg dksX8_good_0 24 rfl rfl
theorem dksX8_good_2 : cX8_good.data.toList.drop 48 = dktX8_good_2 := dk_seg dksX8_good_1 24 rfl rfl
theorem dksX8_good_3 : cX8_good.data.toList.drop 70 = dktX8_good_3 := dk_seg dksX8_good_2 22 rfl rfl
theorem dksX8_good_4 : cX8_good.data.toList.drop 94 = dktX8_good_4 := dk_seg dksX8_good_3 24 rfl rfl
theorem dX8_good_0 : decode cX8_good 0 = .ok (.aload_n 0, 1) := dk_42 (dk_at dksX8_good_0 0 rfl rfl)
theorem dX8_good_1 : decode cX8_good 1 = .ok (.invokevirtual 86, 3) := dk_182 0 86 (dk_at dksX8_good_0 1 rfl rfl)
theorem dX8_good_4 : decode cX8_good 4 = .ok (.aload_n 0, 1) := dk_42 (dk_at dksX8_good_0 4 rfl rfl)
theorem dX8_good_5 : decode cX8_good 5 = .ok (.getfield 9, 3) := dk_180 0 9 (dk_at dksX8_good_0 5 rfl rfl)
theorem dX8_good_8 : decode cX8_good 8 = .ok (.iconst 0, 1) := dk_3 (dk_at dksX8_good_0 8 rfl rfl)
theorem dX8_good_9 : decode cX8_good 9 = .ok (.iaload, 1) := dk_46 (dk_at dksX8_good_0 9 rfl rfl)
theorem dX8_good_10 : decode cX8_good 10 = .ok (.istore_n 3, 1) := dk_62 (dk_at dksX8_good_0 10 rfl rfl)
theorem dX8_good_11 : decode cX8_good 11 = .ok (.iload_n 1, 1) := dk_27 (dk_at dksX8_good_0 11 rfl rfl)
theorem dX8_good_12 : decode cX8_good 12 = .ok (.iconst 0, 1) := dk_3 (dk_at dksX8_good_0 12 rfl rfl)
theorem dX8_good_13 : decode cX8_good 13 = .ok (.iconst 2, 1) := dk_5 (dk_at dksX8_good_0 13 rfl rfl)
theorem dX8_good_14 : decode cX8_good 14 = .ok (.invokestatic 82, 3) := dk_184 0 82 (dk_at dksX8_good_0 14 rfl rfl)
theorem dX8_good_17 : decode cX8_good 17 = .ok (.ifCond .eq 13, 3) := dk_153 0 13 (dk_at dksX8_good_0 17 rfl rfl)
theorem dX8_good_20 : decode cX8_good 20 = .ok (.iload_n 2, 1) := dk_28 (dk_at dksX8_good_0 20 rfl rfl)
theorem dX8_good_21 : decode cX8_good 21 = .ok (.iconst 1, 1) := dk_4 (dk_at dksX8_good_0 21 rfl rfl)
theorem dX8_good_22 : decode cX8_good 22 = .ok (.bipush 99, 2) := dk_16 99 (dk_at dksX8_good_0 22 rfl rfl)
theorem dX8_good_24 : decode cX8_good 24 = .ok (.invokestatic 82, 3) := dk_184 0 82 (dk_at dksX8_good_1 0 rfl rfl)
theorem dX8_good_27 : decode cX8_good 27 = .ok (.ifCond .ne 13, 3) := dk_154 0 13 (dk_at dksX8_good_1 3 rfl rfl)
theorem dX8_good_30 : decode cX8_good 30 = .ok (.aload_n 0, 1) := dk_42 (dk_at dksX8_good_1 6 rfl rfl)
theorem dX8_good_31 : decode cX8_good 31 = .ok (.aload_n 0, 1) := dk_42 (dk_at dksX8_good_1 7 rfl rfl)
theorem dX8_good_32 : decode cX8_good 32 = .ok (.iconst 1, 1) := dk_4 (dk_at dksX8_good_1 8 rfl rfl)
theorem dX8_good_33 : decode cX8_good 33 = .ok (.invokevirtual 89, 3) := dk_182 0 89 (dk_at dksX8_good_1 9 rfl rfl)
theorem dX8_good_36 : decode cX8_good 36 = .ok (.invokevirtual 93, 3) := dk_182 0 93 (dk_at dksX8_good_1 12 rfl rfl)
theorem dX8_good_39 : decode cX8_good 39 = .ok (.ireturn, 1) := dk_172 (dk_at dksX8_good_1 15 rfl rfl)
theorem dX8_good_40 : decode cX8_good 40 = .ok (.iload_n 3, 1) := dk_29 (dk_at dksX8_good_1 16 rfl rfl)
theorem dX8_good_41 : decode cX8_good 41 = .ok (.bipush 8, 2) := dk_16 8 (dk_at dksX8_good_1 17 rfl rfl)
theorem dX8_good_43 : decode cX8_good 43 = .ok (.if_icmp .ne 16, 3) := dk_160 0 16 (dk_at dksX8_good_1 19 rfl rfl)
theorem dX8_good_46 : decode cX8_good 46 = .ok (.aload_n 0, 1) := dk_42 (dk_at dksX8_good_1 22 rfl rfl)
theorem dX8_good_47 : decode cX8_good 47 = .ok (.aload_n 0, 1) := dk_42 (dk_at dksX8_good_1 23 rfl rfl)
theorem dX8_good_48 : decode cX8_good 48 = .ok (.iconst 2, 1) := dk_5 (dk_at dksX8_good_2 0 rfl rfl)
theorem dX8_good_49 : decode cX8_good 49 = .ok (.iconst 1, 1) := dk_4 (dk_at dksX8_good_2 1 rfl rfl)
theorem dX8_good_50 : decode cX8_good 50 = .ok (.bipush 8, 2) := dk_16 8 (dk_at dksX8_good_2 2 rfl rfl)
theorem dX8_good_52 : decode cX8_good 52 = .ok (.invokevirtual 96, 3) := dk_182 0 96 (dk_at dksX8_good_2 4 rfl rfl)
theorem dX8_good_55 : decode cX8_good 55 = .ok (.invokevirtual 93, 3) := dk_182 0 93 (dk_at dksX8_good_2 7 rfl rfl)
theorem dX8_good_58 : decode cX8_good 58 = .ok (.ireturn, 1) := dk_172 (dk_at dksX8_good_2 10 rfl rfl)
theorem dX8_good_59 : decode cX8_good 59 = .ok (.aload_n 0, 1) := dk_42 (dk_at dksX8_good_2 11 rfl rfl)
theorem dX8_good_60 : decode cX8_good 60 = .ok (.getfield 9, 3) := dk_180 0 9 (dk_at dksX8_good_2 12 rfl rfl)
theorem dX8_good_63 : decode cX8_good 63 = .ok (.bipush 21, 2) := dk_16 21 (dk_at dksX8_good_2 15 rfl rfl)
theorem dX8_good_65 : decode cX8_good 65 = .ok (.iload_n 3, 1) := dk_29 (dk_at dksX8_good_2 17 rfl rfl)
theorem dX8_good_66 : decode cX8_good 66 = .ok (.iadd, 1) := dk_96 (dk_at dksX8_good_2 18 rfl rfl)
theorem dX8_good_67 : decode cX8_good 67 = .ok (.iload_n 1, 1) := dk_27 (dk_at dksX8_good_2 19 rfl rfl)
theorem dX8_good_68 : decode cX8_good 68 = .ok (.iastore, 1) := dk_79 (dk_at dksX8_good_2 20 rfl rfl)
theorem dX8_good_69 : decode cX8_good 69 = .ok (.aload_n 0, 1) := dk_42 (dk_at dksX8_good_2 21 rfl rfl)
theorem dX8_good_70 : decode cX8_good 70 = .ok (.getfield 9, 3) := dk_180 0 9 (dk_at dksX8_good_3 0 rfl rfl)
theorem dX8_good_73 : decode cX8_good 73 = .ok (.bipush 29, 2) := dk_16 29 (dk_at dksX8_good_3 3 rfl rfl)
theorem dX8_good_75 : decode cX8_good 75 = .ok (.iload_n 3, 1) := dk_29 (dk_at dksX8_good_3 5 rfl rfl)
theorem dX8_good_76 : decode cX8_good 76 = .ok (.iadd, 1) := dk_96 (dk_at dksX8_good_3 6 rfl rfl)
theorem dX8_good_77 : decode cX8_good 77 = .ok (.iload_n 2, 1) := dk_28 (dk_at dksX8_good_3 7 rfl rfl)
theorem dX8_good_78 : decode cX8_good 78 = .ok (.iastore, 1) := dk_79 (dk_at dksX8_good_3 8 rfl rfl)
theorem dX8_good_79 : decode cX8_good 79 = .ok (.aload_n 0, 1) := dk_42 (dk_at dksX8_good_3 9 rfl rfl)
theorem dX8_good_80 : decode cX8_good 80 = .ok (.getfield 9, 3) := dk_180 0 9 (dk_at dksX8_good_3 10 rfl rfl)
theorem dX8_good_83 : decode cX8_good 83 = .ok (.iconst 0, 1) := dk_3 (dk_at dksX8_good_3 13 rfl rfl)
theorem dX8_good_84 : decode cX8_good 84 = .ok (.dup2, 1) := dk_92 (dk_at dksX8_good_3 14 rfl rfl)
theorem dX8_good_85 : decode cX8_good 85 = .ok (.iaload, 1) := dk_46 (dk_at dksX8_good_3 15 rfl rfl)
theorem dX8_good_86 : decode cX8_good 86 = .ok (.iconst 1, 1) := dk_4 (dk_at dksX8_good_3 16 rfl rfl)
theorem dX8_good_87 : decode cX8_good 87 = .ok (.iadd, 1) := dk_96 (dk_at dksX8_good_3 17 rfl rfl)
theorem dX8_good_88 : decode cX8_good 88 = .ok (.iastore, 1) := dk_79 (dk_at dksX8_good_3 18 rfl rfl)
theorem dX8_good_89 : decode cX8_good 89 = .ok (.aload_n 0, 1) := dk_42 (dk_at dksX8_good_3 19 rfl rfl)
theorem dX8_good_90 : decode cX8_good 90 = .ok (.iload_n 3, 1) := dk_29 (dk_at dksX8_good_3 20 rfl rfl)
theorem dX8_good_91 : decode cX8_good 91 = .ok (.invokevirtual 93, 3) := dk_182 0 93 (dk_at dksX8_good_3 21 rfl rfl)
theorem dX8_good_94 : decode cX8_good 94 = .ok (.ireturn, 1) := dk_172 (dk_at dksX8_good_4 0 rfl rfl)
abbrev cX8_keep : ByteArray := prog_15_method_4_code
def yX8_keep : MethodName := ⟨RX8, "keep", "()V"⟩
def dkwX8_keep_0 : List UInt8 := [42, 3, 181, 0, 64, 42, 180, 0, 9, 3, 42, 180, 0, 13, 3, 16, 109, 184, 0, 67, 177]
abbrev dktX8_keep_0 : List UInt8 := dkwX8_keep_0 ++ []
theorem dksX8_keep_0 : cX8_keep.data.toList.drop 0 = dktX8_keep_0 := by decide +kernel
theorem dX8_keep_0 : decode cX8_keep 0 = .ok (.aload_n 0, 1) := dk_42 (dk_at dksX8_keep_0 0 rfl rfl)
theorem dX8_keep_1 : decode cX8_keep 1 = .ok (.iconst 0, 1) := dk_3 (dk_at dksX8_keep_0 1 rfl rfl)
theorem dX8_keep_2 : decode cX8_keep 2 = .ok (.putfield 64, 3) := dk_181 0 64 (dk_at dksX8_keep_0 2 rfl rfl)
theorem dX8_keep_5 : decode cX8_keep 5 = .ok (.aload_n 0, 1) := dk_42 (dk_at dksX8_keep_0 5 rfl rfl)
theorem dX8_keep_6 : decode cX8_keep 6 = .ok (.getfield 9, 3) := dk_180 0 9 (dk_at dksX8_keep_0 6 rfl rfl)
theorem dX8_keep_9 : decode cX8_keep 9 = .ok (.iconst 0, 1) := dk_3 (dk_at dksX8_keep_0 9 rfl rfl)
theorem dX8_keep_10 : decode cX8_keep 10 = .ok (.aload_n 0, 1) := dk_42 (dk_at dksX8_keep_0 10 rfl rfl)
theorem dX8_keep_11 : decode cX8_keep 11 = .ok (.getfield 13, 3) := dk_180 0 13 (dk_at dksX8_keep_0 11 rfl rfl)
theorem dX8_keep_14 : decode cX8_keep 14 = .ok (.iconst 0, 1) := dk_3 (dk_at dksX8_keep_0 14 rfl rfl)
theorem dX8_keep_15 : decode cX8_keep 15 = .ok (.bipush 109, 2) := dk_16 109 (dk_at dksX8_keep_0 15 rfl rfl)
theorem dX8_keep_17 : decode cX8_keep 17 = .ok (.invokestatic 67, 3) := dk_184 0 67 (dk_at dksX8_keep_0 17 rfl rfl)
theorem dX8_keep_20 : decode cX8_keep 20 = .ok (.return_, 1) := dk_177 (dk_at dksX8_keep_0 20 rfl rfl)
abbrev cX8_in : ByteArray := prog_15_method_3_code
def yX8_in : MethodName := ⟨RX8, "in", "(III)Z"⟩
def dkwX8_in_0 : List UInt8 := [26, 27, 161, 0, 12, 26, 28, 163, 0, 7, 4, 167, 0, 4, 3, 172]
abbrev dktX8_in_0 : List UInt8 := dkwX8_in_0 ++ []
theorem dksX8_in_0 : cX8_in.data.toList.drop 0 = dktX8_in_0 := by decide +kernel
theorem dX8_in_0 : decode cX8_in 0 = .ok (.iload_n 0, 1) := dk_26 (dk_at dksX8_in_0 0 rfl rfl)
theorem dX8_in_1 : decode cX8_in 1 = .ok (.iload_n 1, 1) := dk_27 (dk_at dksX8_in_0 1 rfl rfl)
theorem dX8_in_2 : decode cX8_in 2 = .ok (.if_icmp .lt 12, 3) := dk_161 0 12 (dk_at dksX8_in_0 2 rfl rfl)
theorem dX8_in_5 : decode cX8_in 5 = .ok (.iload_n 0, 1) := dk_26 (dk_at dksX8_in_0 5 rfl rfl)
theorem dX8_in_6 : decode cX8_in 6 = .ok (.iload_n 2, 1) := dk_28 (dk_at dksX8_in_0 6 rfl rfl)
theorem dX8_in_7 : decode cX8_in 7 = .ok (.if_icmp .gt 7, 3) := dk_163 0 7 (dk_at dksX8_in_0 7 rfl rfl)
theorem dX8_in_10 : decode cX8_in 10 = .ok (.iconst 1, 1) := dk_4 (dk_at dksX8_in_0 10 rfl rfl)
theorem dX8_in_11 : decode cX8_in 11 = .ok (.goto 4, 3) := dk_167 0 4 (dk_at dksX8_in_0 11 rfl rfl)
theorem dX8_in_14 : decode cX8_in 14 = .ok (.iconst 0, 1) := dk_3 (dk_at dksX8_in_0 14 rfl rfl)
theorem dX8_in_15 : decode cX8_in 15 = .ok (.ireturn, 1) := dk_172 (dk_at dksX8_in_0 15 rfl rfl)
abbrev cX8_fails : ByteArray := prog_15_method_6_code
def yX8_fails : MethodName := ⟨RX8, "fails", "(I)I"⟩
def dkwX8_fails_0 : List UInt8 := [42, 27, 181, 0, 64, 3, 172]
abbrev dktX8_fails_0 : List UInt8 := dkwX8_fails_0 ++ []
theorem dksX8_fails_0 : cX8_fails.data.toList.drop 0 = dktX8_fails_0 := by decide +kernel
theorem dX8_fails_0 : decode cX8_fails 0 = .ok (.aload_n 0, 1) := dk_42 (dk_at dksX8_fails_0 0 rfl rfl)
theorem dX8_fails_1 : decode cX8_fails 1 = .ok (.iload_n 1, 1) := dk_27 (dk_at dksX8_fails_0 1 rfl rfl)
theorem dX8_fails_2 : decode cX8_fails 2 = .ok (.putfield 64, 3) := dk_181 0 64 (dk_at dksX8_fails_0 2 rfl rfl)
theorem dX8_fails_5 : decode cX8_fails 5 = .ok (.iconst 0, 1) := dk_3 (dk_at dksX8_fails_0 5 rfl rfl)
theorem dX8_fails_6 : decode cX8_fails 6 = .ok (.ireturn, 1) := dk_172 (dk_at dksX8_fails_0 6 rfl rfl)
abbrev cX8_ends : ByteArray := prog_15_method_5_code
def yX8_ends : MethodName := ⟨RX8, "ends", "(I)I"⟩
def dkwX8_ends_4 : List UInt8 := [5, 92, 46, 4, 96, 79, 27, 172]
abbrev dktX8_ends_4 : List UInt8 := dkwX8_ends_4 ++ []
def dkwX8_ends_3 : List UInt8 := [42, 180, 0, 73, 104, 16, 109, 184, 0, 67, 42, 89, 180, 0, 73, 4, 96, 181, 0, 73, 42, 180, 0, 9]
abbrev dktX8_ends_3 : List UInt8 := dkwX8_ends_3 ++ dktX8_ends_4
def dkwX8_ends_2 : List UInt8 := [184, 0, 67, 42, 89, 180, 0, 73, 4, 100, 181, 0, 73, 42, 180, 0, 13, 3, 42, 180, 0, 19, 16, 109]
abbrev dktX8_ends_2 : List UInt8 := dkwX8_ends_2 ++ dktX8_ends_3
def dkwX8_ends_1 : List UInt8 := [42, 180, 0, 73, 16, 8, 160, 0, 30, 42, 180, 0, 19, 16, 109, 42, 180, 0, 19, 3, 17, 2, 251]
abbrev dktX8_ends_1 : List UInt8 := dkwX8_ends_1 ++ dktX8_ends_2
def dkwX8_ends_0 : List UInt8 := [42, 180, 0, 64, 158, 0, 20, 42, 180, 0, 13, 3, 42, 180, 0, 9, 3, 16, 109, 184, 0, 67, 3, 172]
abbrev dktX8_ends_0 : List UInt8 := dkwX8_ends_0 ++ dktX8_ends_1
theorem dksX8_ends_0 : cX8_ends.data.toList.drop 0 = dktX8_ends_0 := by decide +kernel
theorem dksX8_ends_1 : cX8_ends.data.toList.drop 24 = dktX8_ends_1 := dk_seg dksX8_ends_0 24 rfl rfl
theorem dksX8_ends_2 : cX8_ends.data.toList.drop 47 = dktX8_ends_2 := dk_seg dksX8_ends_1 23 rfl rfl
theorem dksX8_ends_3 : cX8_ends.data.toList.drop 71 = dktX8_ends_3 := dk_seg dksX8_ends_2 24 rfl rfl
theorem dksX8_ends_4 : cX8_ends.data.toList.drop 95 = dktX8_ends_4 := dk_seg dksX8_ends_3 24 rfl rfl
theorem dX8_ends_0 : decode cX8_ends 0 = .ok (.aload_n 0, 1) := dk_42 (dk_at dksX8_ends_0 0 rfl rfl)
theorem dX8_ends_1 : decode cX8_ends 1 = .ok (.getfield 64, 3) := dk_180 0 64 (dk_at dksX8_ends_0 1 rfl rfl)
theorem dX8_ends_4 : decode cX8_ends 4 = .ok (.ifCond .le 20, 3) := dk_158 0 20 (dk_at dksX8_ends_0 4 rfl rfl)
theorem dX8_ends_7 : decode cX8_ends 7 = .ok (.aload_n 0, 1) := dk_42 (dk_at dksX8_ends_0 7 rfl rfl)
theorem dX8_ends_8 : decode cX8_ends 8 = .ok (.getfield 13, 3) := dk_180 0 13 (dk_at dksX8_ends_0 8 rfl rfl)
theorem dX8_ends_11 : decode cX8_ends 11 = .ok (.iconst 0, 1) := dk_3 (dk_at dksX8_ends_0 11 rfl rfl)
theorem dX8_ends_12 : decode cX8_ends 12 = .ok (.aload_n 0, 1) := dk_42 (dk_at dksX8_ends_0 12 rfl rfl)
theorem dX8_ends_13 : decode cX8_ends 13 = .ok (.getfield 9, 3) := dk_180 0 9 (dk_at dksX8_ends_0 13 rfl rfl)
theorem dX8_ends_16 : decode cX8_ends 16 = .ok (.iconst 0, 1) := dk_3 (dk_at dksX8_ends_0 16 rfl rfl)
theorem dX8_ends_17 : decode cX8_ends 17 = .ok (.bipush 109, 2) := dk_16 109 (dk_at dksX8_ends_0 17 rfl rfl)
theorem dX8_ends_19 : decode cX8_ends 19 = .ok (.invokestatic 67, 3) := dk_184 0 67 (dk_at dksX8_ends_0 19 rfl rfl)
theorem dX8_ends_22 : decode cX8_ends 22 = .ok (.iconst 0, 1) := dk_3 (dk_at dksX8_ends_0 22 rfl rfl)
theorem dX8_ends_23 : decode cX8_ends 23 = .ok (.ireturn, 1) := dk_172 (dk_at dksX8_ends_0 23 rfl rfl)
theorem dX8_ends_24 : decode cX8_ends 24 = .ok (.aload_n 0, 1) := dk_42 (dk_at dksX8_ends_1 0 rfl rfl)
theorem dX8_ends_25 : decode cX8_ends 25 = .ok (.getfield 73, 3) := dk_180 0 73 (dk_at dksX8_ends_1 1 rfl rfl)
theorem dX8_ends_28 : decode cX8_ends 28 = .ok (.bipush 8, 2) := dk_16 8 (dk_at dksX8_ends_1 4 rfl rfl)
theorem dX8_ends_30 : decode cX8_ends 30 = .ok (.if_icmp .ne 30, 3) := dk_160 0 30 (dk_at dksX8_ends_1 6 rfl rfl)
theorem dX8_ends_33 : decode cX8_ends 33 = .ok (.aload_n 0, 1) := dk_42 (dk_at dksX8_ends_1 9 rfl rfl)
theorem dX8_ends_34 : decode cX8_ends 34 = .ok (.getfield 19, 3) := dk_180 0 19 (dk_at dksX8_ends_1 10 rfl rfl)
theorem dX8_ends_37 : decode cX8_ends 37 = .ok (.bipush 109, 2) := dk_16 109 (dk_at dksX8_ends_1 13 rfl rfl)
theorem dX8_ends_39 : decode cX8_ends 39 = .ok (.aload_n 0, 1) := dk_42 (dk_at dksX8_ends_1 15 rfl rfl)
theorem dX8_ends_40 : decode cX8_ends 40 = .ok (.getfield 19, 3) := dk_180 0 19 (dk_at dksX8_ends_1 16 rfl rfl)
theorem dX8_ends_43 : decode cX8_ends 43 = .ok (.iconst 0, 1) := dk_3 (dk_at dksX8_ends_1 19 rfl rfl)
theorem dX8_ends_44 : decode cX8_ends 44 = .ok (.sipush 763, 3) := dk_17 2 251 (dk_at dksX8_ends_1 20 rfl rfl)
theorem dX8_ends_47 : decode cX8_ends 47 = .ok (.invokestatic 67, 3) := dk_184 0 67 (dk_at dksX8_ends_2 0 rfl rfl)
theorem dX8_ends_50 : decode cX8_ends 50 = .ok (.aload_n 0, 1) := dk_42 (dk_at dksX8_ends_2 3 rfl rfl)
theorem dX8_ends_51 : decode cX8_ends 51 = .ok (.dup, 1) := dk_89 (dk_at dksX8_ends_2 4 rfl rfl)
theorem dX8_ends_52 : decode cX8_ends 52 = .ok (.getfield 73, 3) := dk_180 0 73 (dk_at dksX8_ends_2 5 rfl rfl)
theorem dX8_ends_55 : decode cX8_ends 55 = .ok (.iconst 1, 1) := dk_4 (dk_at dksX8_ends_2 8 rfl rfl)
theorem dX8_ends_56 : decode cX8_ends 56 = .ok (.isub, 1) := dk_100 (dk_at dksX8_ends_2 9 rfl rfl)
theorem dX8_ends_57 : decode cX8_ends 57 = .ok (.putfield 73, 3) := dk_181 0 73 (dk_at dksX8_ends_2 10 rfl rfl)
theorem dX8_ends_60 : decode cX8_ends 60 = .ok (.aload_n 0, 1) := dk_42 (dk_at dksX8_ends_2 13 rfl rfl)
theorem dX8_ends_61 : decode cX8_ends 61 = .ok (.getfield 13, 3) := dk_180 0 13 (dk_at dksX8_ends_2 14 rfl rfl)
theorem dX8_ends_64 : decode cX8_ends 64 = .ok (.iconst 0, 1) := dk_3 (dk_at dksX8_ends_2 17 rfl rfl)
theorem dX8_ends_65 : decode cX8_ends 65 = .ok (.aload_n 0, 1) := dk_42 (dk_at dksX8_ends_2 18 rfl rfl)
theorem dX8_ends_66 : decode cX8_ends 66 = .ok (.getfield 19, 3) := dk_180 0 19 (dk_at dksX8_ends_2 19 rfl rfl)
theorem dX8_ends_69 : decode cX8_ends 69 = .ok (.bipush 109, 2) := dk_16 109 (dk_at dksX8_ends_2 22 rfl rfl)
theorem dX8_ends_71 : decode cX8_ends 71 = .ok (.aload_n 0, 1) := dk_42 (dk_at dksX8_ends_3 0 rfl rfl)
theorem dX8_ends_72 : decode cX8_ends 72 = .ok (.getfield 73, 3) := dk_180 0 73 (dk_at dksX8_ends_3 1 rfl rfl)
theorem dX8_ends_75 : decode cX8_ends 75 = .ok (.imul, 1) := dk_104 (dk_at dksX8_ends_3 4 rfl rfl)
theorem dX8_ends_76 : decode cX8_ends 76 = .ok (.bipush 109, 2) := dk_16 109 (dk_at dksX8_ends_3 5 rfl rfl)
theorem dX8_ends_78 : decode cX8_ends 78 = .ok (.invokestatic 67, 3) := dk_184 0 67 (dk_at dksX8_ends_3 7 rfl rfl)
theorem dX8_ends_81 : decode cX8_ends 81 = .ok (.aload_n 0, 1) := dk_42 (dk_at dksX8_ends_3 10 rfl rfl)
theorem dX8_ends_82 : decode cX8_ends 82 = .ok (.dup, 1) := dk_89 (dk_at dksX8_ends_3 11 rfl rfl)
theorem dX8_ends_83 : decode cX8_ends 83 = .ok (.getfield 73, 3) := dk_180 0 73 (dk_at dksX8_ends_3 12 rfl rfl)
theorem dX8_ends_86 : decode cX8_ends 86 = .ok (.iconst 1, 1) := dk_4 (dk_at dksX8_ends_3 15 rfl rfl)
theorem dX8_ends_87 : decode cX8_ends 87 = .ok (.iadd, 1) := dk_96 (dk_at dksX8_ends_3 16 rfl rfl)
theorem dX8_ends_88 : decode cX8_ends 88 = .ok (.putfield 73, 3) := dk_181 0 73 (dk_at dksX8_ends_3 17 rfl rfl)
theorem dX8_ends_91 : decode cX8_ends 91 = .ok (.aload_n 0, 1) := dk_42 (dk_at dksX8_ends_3 20 rfl rfl)
theorem dX8_ends_92 : decode cX8_ends 92 = .ok (.getfield 9, 3) := dk_180 0 9 (dk_at dksX8_ends_3 21 rfl rfl)
theorem dX8_ends_95 : decode cX8_ends 95 = .ok (.iconst 2, 1) := dk_5 (dk_at dksX8_ends_4 0 rfl rfl)
theorem dX8_ends_96 : decode cX8_ends 96 = .ok (.dup2, 1) := dk_92 (dk_at dksX8_ends_4 1 rfl rfl)
theorem dX8_ends_97 : decode cX8_ends 97 = .ok (.iaload, 1) := dk_46 (dk_at dksX8_ends_4 2 rfl rfl)
theorem dX8_ends_98 : decode cX8_ends 98 = .ok (.iconst 1, 1) := dk_4 (dk_at dksX8_ends_4 3 rfl rfl)
theorem dX8_ends_99 : decode cX8_ends 99 = .ok (.iadd, 1) := dk_96 (dk_at dksX8_ends_4 4 rfl rfl)
theorem dX8_ends_100 : decode cX8_ends 100 = .ok (.iastore, 1) := dk_79 (dk_at dksX8_ends_4 5 rfl rfl)
theorem dX8_ends_101 : decode cX8_ends 101 = .ok (.iload_n 1, 1) := dk_27 (dk_at dksX8_ends_4 6 rfl rfl)
theorem dX8_ends_102 : decode cX8_ends 102 = .ok (.ireturn, 1) := dk_172 (dk_at dksX8_ends_4 7 rfl rfl)
abbrev cX8_refuse : ByteArray := prog_15_method_7_code
def yX8_refuse : MethodName := ⟨RX8, "refuse", "(III)I"⟩
def dkwX8_refuse_0 : List UInt8 := [42, 27, 181, 0, 64, 42, 28, 181, 0, 76, 42, 29, 181, 0, 79, 3, 172]
abbrev dktX8_refuse_0 : List UInt8 := dkwX8_refuse_0 ++ []
theorem dksX8_refuse_0 : cX8_refuse.data.toList.drop 0 = dktX8_refuse_0 := by decide +kernel
theorem dX8_refuse_0 : decode cX8_refuse 0 = .ok (.aload_n 0, 1) := dk_42 (dk_at dksX8_refuse_0 0 rfl rfl)
theorem dX8_refuse_1 : decode cX8_refuse 1 = .ok (.iload_n 1, 1) := dk_27 (dk_at dksX8_refuse_0 1 rfl rfl)
theorem dX8_refuse_2 : decode cX8_refuse 2 = .ok (.putfield 64, 3) := dk_181 0 64 (dk_at dksX8_refuse_0 2 rfl rfl)
theorem dX8_refuse_5 : decode cX8_refuse 5 = .ok (.aload_n 0, 1) := dk_42 (dk_at dksX8_refuse_0 5 rfl rfl)
theorem dX8_refuse_6 : decode cX8_refuse 6 = .ok (.iload_n 2, 1) := dk_28 (dk_at dksX8_refuse_0 6 rfl rfl)
theorem dX8_refuse_7 : decode cX8_refuse 7 = .ok (.putfield 76, 3) := dk_181 0 76 (dk_at dksX8_refuse_0 7 rfl rfl)
theorem dX8_refuse_10 : decode cX8_refuse 10 = .ok (.aload_n 0, 1) := dk_42 (dk_at dksX8_refuse_0 10 rfl rfl)
theorem dX8_refuse_11 : decode cX8_refuse 11 = .ok (.iload_n 3, 1) := dk_29 (dk_at dksX8_refuse_0 11 rfl rfl)
theorem dX8_refuse_12 : decode cX8_refuse 12 = .ok (.putfield 79, 3) := dk_181 0 79 (dk_at dksX8_refuse_0 12 rfl rfl)
theorem dX8_refuse_15 : decode cX8_refuse 15 = .ok (.iconst 0, 1) := dk_3 (dk_at dksX8_refuse_0 15 rfl rfl)
theorem dX8_refuse_16 : decode cX8_refuse 16 = .ok (.ireturn, 1) := dk_172 (dk_at dksX8_refuse_0 16 rfl rfl)
abbrev cX8_put : ByteArray := prog_15_method_13_code
def yX8_put : MethodName := ⟨RX8, "put", "(II)I"⟩
def dkwX8_put_6 : List UInt8 := [180, 0, 9, 16, 6, 28, 96, 92, 46, 4, 96, 79, 42, 29, 4, 96, 182, 0, 93, 172]
abbrev dktX8_put_6 : List UInt8 := dkwX8_put_6 ++ []
def dkwX8_put_5 : List UInt8 := [182, 0, 96, 182, 0, 93, 172, 42, 180, 0, 9, 16, 9, 7, 28, 104, 96, 29, 96, 27, 79, 42]
abbrev dktX8_put_5 : List UInt8 := dkwX8_put_5 ++ dktX8_put_6
def dkwX8_put_4 : List UInt8 := [7, 160, 0, 28, 42, 42, 6, 42, 27, 182, 0, 107, 155, 0, 8, 16, 6, 167, 0, 4, 8, 29]
abbrev dktX8_put_4 : List UInt8 := dkwX8_put_4 ++ dktX8_put_5
def dkwX8_put_3 : List UInt8 := [180, 0, 9, 16, 21, 27, 96, 46, 182, 0, 96, 182, 0, 93, 172, 42, 27, 182, 0, 107, 156, 0, 8, 29]
abbrev dktX8_put_3 : List UInt8 := dkwX8_put_3 ++ dktX8_put_4
def dkwX8_put_2 : List UInt8 := [28, 96, 46, 62, 42, 180, 0, 9, 16, 21, 27, 96, 46, 28, 159, 0, 23, 42, 42, 6, 7, 42]
abbrev dktX8_put_2 : List UInt8 := dkwX8_put_2 ++ dktX8_put_3
def dkwX8_put_1 : List UInt8 := [182, 0, 100, 153, 0, 7, 5, 167, 0, 4, 4, 182, 0, 89, 182, 0, 93, 172, 42, 180, 0, 9, 16, 6]
abbrev dktX8_put_1 : List UInt8 := dkwX8_put_1 ++ dktX8_put_2
def dkwX8_put_0 : List UInt8 := [42, 182, 0, 86, 42, 27, 182, 0, 100, 153, 0, 10, 28, 184, 0, 104, 154, 0, 25, 42, 42, 42, 27]
abbrev dktX8_put_0 : List UInt8 := dkwX8_put_0 ++ dktX8_put_1
theorem dksX8_put_0 : cX8_put.data.toList.drop 0 = dktX8_put_0 := by decide +kernel
theorem dksX8_put_1 : cX8_put.data.toList.drop 23 = dktX8_put_1 := dk_seg dksX8_put_0 23 rfl rfl
theorem dksX8_put_2 : cX8_put.data.toList.drop 47 = dktX8_put_2 := dk_seg dksX8_put_1 24 rfl rfl
theorem dksX8_put_3 : cX8_put.data.toList.drop 69 = dktX8_put_3 := dk_seg dksX8_put_2 22 rfl rfl
theorem dksX8_put_4 : cX8_put.data.toList.drop 93 = dktX8_put_4 := dk_seg dksX8_put_3 24 rfl rfl
theorem dksX8_put_5 : cX8_put.data.toList.drop 115 = dktX8_put_5 := dk_seg dksX8_put_4 22 rfl rfl
theorem dksX8_put_6 : cX8_put.data.toList.drop 137 = dktX8_put_6 := dk_seg dksX8_put_5 22 rfl rfl
theorem dX8_put_0 : decode cX8_put 0 = .ok (.aload_n 0, 1) := dk_42 (dk_at dksX8_put_0 0 rfl rfl)
theorem dX8_put_1 : decode cX8_put 1 = .ok (.invokevirtual 86, 3) := dk_182 0 86 (dk_at dksX8_put_0 1 rfl rfl)
theorem dX8_put_4 : decode cX8_put 4 = .ok (.aload_n 0, 1) := dk_42 (dk_at dksX8_put_0 4 rfl rfl)
theorem dX8_put_5 : decode cX8_put 5 = .ok (.iload_n 1, 1) := dk_27 (dk_at dksX8_put_0 5 rfl rfl)
theorem dX8_put_6 : decode cX8_put 6 = .ok (.invokevirtual 100, 3) := dk_182 0 100 (dk_at dksX8_put_0 6 rfl rfl)
theorem dX8_put_9 : decode cX8_put 9 = .ok (.ifCond .eq 10, 3) := dk_153 0 10 (dk_at dksX8_put_0 9 rfl rfl)
theorem dX8_put_12 : decode cX8_put 12 = .ok (.iload_n 2, 1) := dk_28 (dk_at dksX8_put_0 12 rfl rfl)
theorem dX8_put_13 : decode cX8_put 13 = .ok (.invokestatic 104, 3) := dk_184 0 104 (dk_at dksX8_put_0 13 rfl rfl)
theorem dX8_put_16 : decode cX8_put 16 = .ok (.ifCond .ne 25, 3) := dk_154 0 25 (dk_at dksX8_put_0 16 rfl rfl)
theorem dX8_put_19 : decode cX8_put 19 = .ok (.aload_n 0, 1) := dk_42 (dk_at dksX8_put_0 19 rfl rfl)
theorem dX8_put_20 : decode cX8_put 20 = .ok (.aload_n 0, 1) := dk_42 (dk_at dksX8_put_0 20 rfl rfl)
theorem dX8_put_21 : decode cX8_put 21 = .ok (.aload_n 0, 1) := dk_42 (dk_at dksX8_put_0 21 rfl rfl)
theorem dX8_put_22 : decode cX8_put 22 = .ok (.iload_n 1, 1) := dk_27 (dk_at dksX8_put_0 22 rfl rfl)
theorem dX8_put_23 : decode cX8_put 23 = .ok (.invokevirtual 100, 3) := dk_182 0 100 (dk_at dksX8_put_1 0 rfl rfl)
theorem dX8_put_26 : decode cX8_put 26 = .ok (.ifCond .eq 7, 3) := dk_153 0 7 (dk_at dksX8_put_1 3 rfl rfl)
theorem dX8_put_29 : decode cX8_put 29 = .ok (.iconst 2, 1) := dk_5 (dk_at dksX8_put_1 6 rfl rfl)
theorem dX8_put_30 : decode cX8_put 30 = .ok (.goto 4, 3) := dk_167 0 4 (dk_at dksX8_put_1 7 rfl rfl)
theorem dX8_put_33 : decode cX8_put 33 = .ok (.iconst 1, 1) := dk_4 (dk_at dksX8_put_1 10 rfl rfl)
theorem dX8_put_34 : decode cX8_put 34 = .ok (.invokevirtual 89, 3) := dk_182 0 89 (dk_at dksX8_put_1 11 rfl rfl)
theorem dX8_put_37 : decode cX8_put 37 = .ok (.invokevirtual 93, 3) := dk_182 0 93 (dk_at dksX8_put_1 14 rfl rfl)
theorem dX8_put_40 : decode cX8_put 40 = .ok (.ireturn, 1) := dk_172 (dk_at dksX8_put_1 17 rfl rfl)
theorem dX8_put_41 : decode cX8_put 41 = .ok (.aload_n 0, 1) := dk_42 (dk_at dksX8_put_1 18 rfl rfl)
theorem dX8_put_42 : decode cX8_put 42 = .ok (.getfield 9, 3) := dk_180 0 9 (dk_at dksX8_put_1 19 rfl rfl)
theorem dX8_put_45 : decode cX8_put 45 = .ok (.bipush 6, 2) := dk_16 6 (dk_at dksX8_put_1 22 rfl rfl)
theorem dX8_put_47 : decode cX8_put 47 = .ok (.iload_n 2, 1) := dk_28 (dk_at dksX8_put_2 0 rfl rfl)
theorem dX8_put_48 : decode cX8_put 48 = .ok (.iadd, 1) := dk_96 (dk_at dksX8_put_2 1 rfl rfl)
theorem dX8_put_49 : decode cX8_put 49 = .ok (.iaload, 1) := dk_46 (dk_at dksX8_put_2 2 rfl rfl)
theorem dX8_put_50 : decode cX8_put 50 = .ok (.istore_n 3, 1) := dk_62 (dk_at dksX8_put_2 3 rfl rfl)
theorem dX8_put_51 : decode cX8_put 51 = .ok (.aload_n 0, 1) := dk_42 (dk_at dksX8_put_2 4 rfl rfl)
theorem dX8_put_52 : decode cX8_put 52 = .ok (.getfield 9, 3) := dk_180 0 9 (dk_at dksX8_put_2 5 rfl rfl)
theorem dX8_put_55 : decode cX8_put 55 = .ok (.bipush 21, 2) := dk_16 21 (dk_at dksX8_put_2 8 rfl rfl)
theorem dX8_put_57 : decode cX8_put 57 = .ok (.iload_n 1, 1) := dk_27 (dk_at dksX8_put_2 10 rfl rfl)
theorem dX8_put_58 : decode cX8_put 58 = .ok (.iadd, 1) := dk_96 (dk_at dksX8_put_2 11 rfl rfl)
theorem dX8_put_59 : decode cX8_put 59 = .ok (.iaload, 1) := dk_46 (dk_at dksX8_put_2 12 rfl rfl)
theorem dX8_put_60 : decode cX8_put 60 = .ok (.iload_n 2, 1) := dk_28 (dk_at dksX8_put_2 13 rfl rfl)
theorem dX8_put_61 : decode cX8_put 61 = .ok (.if_icmp .eq 23, 3) := dk_159 0 23 (dk_at dksX8_put_2 14 rfl rfl)
theorem dX8_put_64 : decode cX8_put 64 = .ok (.aload_n 0, 1) := dk_42 (dk_at dksX8_put_2 17 rfl rfl)
theorem dX8_put_65 : decode cX8_put 65 = .ok (.aload_n 0, 1) := dk_42 (dk_at dksX8_put_2 18 rfl rfl)
theorem dX8_put_66 : decode cX8_put 66 = .ok (.iconst 3, 1) := dk_6 (dk_at dksX8_put_2 19 rfl rfl)
theorem dX8_put_67 : decode cX8_put 67 = .ok (.iconst 4, 1) := dk_7 (dk_at dksX8_put_2 20 rfl rfl)
theorem dX8_put_68 : decode cX8_put 68 = .ok (.aload_n 0, 1) := dk_42 (dk_at dksX8_put_2 21 rfl rfl)
theorem dX8_put_69 : decode cX8_put 69 = .ok (.getfield 9, 3) := dk_180 0 9 (dk_at dksX8_put_3 0 rfl rfl)
theorem dX8_put_72 : decode cX8_put 72 = .ok (.bipush 21, 2) := dk_16 21 (dk_at dksX8_put_3 3 rfl rfl)
theorem dX8_put_74 : decode cX8_put 74 = .ok (.iload_n 1, 1) := dk_27 (dk_at dksX8_put_3 5 rfl rfl)
theorem dX8_put_75 : decode cX8_put 75 = .ok (.iadd, 1) := dk_96 (dk_at dksX8_put_3 6 rfl rfl)
theorem dX8_put_76 : decode cX8_put 76 = .ok (.iaload, 1) := dk_46 (dk_at dksX8_put_3 7 rfl rfl)
theorem dX8_put_77 : decode cX8_put 77 = .ok (.invokevirtual 96, 3) := dk_182 0 96 (dk_at dksX8_put_3 8 rfl rfl)
theorem dX8_put_80 : decode cX8_put 80 = .ok (.invokevirtual 93, 3) := dk_182 0 93 (dk_at dksX8_put_3 11 rfl rfl)
theorem dX8_put_83 : decode cX8_put 83 = .ok (.ireturn, 1) := dk_172 (dk_at dksX8_put_3 14 rfl rfl)
theorem dX8_put_84 : decode cX8_put 84 = .ok (.aload_n 0, 1) := dk_42 (dk_at dksX8_put_3 15 rfl rfl)
theorem dX8_put_85 : decode cX8_put 85 = .ok (.iload_n 1, 1) := dk_27 (dk_at dksX8_put_3 16 rfl rfl)
theorem dX8_put_86 : decode cX8_put 86 = .ok (.invokevirtual 107, 3) := dk_182 0 107 (dk_at dksX8_put_3 17 rfl rfl)
theorem dX8_put_89 : decode cX8_put 89 = .ok (.ifCond .ge 8, 3) := dk_156 0 8 (dk_at dksX8_put_3 20 rfl rfl)
theorem dX8_put_92 : decode cX8_put 92 = .ok (.iload_n 3, 1) := dk_29 (dk_at dksX8_put_3 23 rfl rfl)
theorem dX8_put_93 : decode cX8_put 93 = .ok (.iconst 4, 1) := dk_7 (dk_at dksX8_put_4 0 rfl rfl)
theorem dX8_put_94 : decode cX8_put 94 = .ok (.if_icmp .ne 28, 3) := dk_160 0 28 (dk_at dksX8_put_4 1 rfl rfl)
theorem dX8_put_97 : decode cX8_put 97 = .ok (.aload_n 0, 1) := dk_42 (dk_at dksX8_put_4 4 rfl rfl)
theorem dX8_put_98 : decode cX8_put 98 = .ok (.aload_n 0, 1) := dk_42 (dk_at dksX8_put_4 5 rfl rfl)
theorem dX8_put_99 : decode cX8_put 99 = .ok (.iconst 3, 1) := dk_6 (dk_at dksX8_put_4 6 rfl rfl)
theorem dX8_put_100 : decode cX8_put 100 = .ok (.aload_n 0, 1) := dk_42 (dk_at dksX8_put_4 7 rfl rfl)
theorem dX8_put_101 : decode cX8_put 101 = .ok (.iload_n 1, 1) := dk_27 (dk_at dksX8_put_4 8 rfl rfl)
theorem dX8_put_102 : decode cX8_put 102 = .ok (.invokevirtual 107, 3) := dk_182 0 107 (dk_at dksX8_put_4 9 rfl rfl)
theorem dX8_put_105 : decode cX8_put 105 = .ok (.ifCond .lt 8, 3) := dk_155 0 8 (dk_at dksX8_put_4 12 rfl rfl)
theorem dX8_put_108 : decode cX8_put 108 = .ok (.bipush 6, 2) := dk_16 6 (dk_at dksX8_put_4 15 rfl rfl)
theorem dX8_put_110 : decode cX8_put 110 = .ok (.goto 4, 3) := dk_167 0 4 (dk_at dksX8_put_4 17 rfl rfl)
theorem dX8_put_113 : decode cX8_put 113 = .ok (.iconst 5, 1) := dk_8 (dk_at dksX8_put_4 20 rfl rfl)
theorem dX8_put_114 : decode cX8_put 114 = .ok (.iload_n 3, 1) := dk_29 (dk_at dksX8_put_4 21 rfl rfl)
theorem dX8_put_115 : decode cX8_put 115 = .ok (.invokevirtual 96, 3) := dk_182 0 96 (dk_at dksX8_put_5 0 rfl rfl)
theorem dX8_put_118 : decode cX8_put 118 = .ok (.invokevirtual 93, 3) := dk_182 0 93 (dk_at dksX8_put_5 3 rfl rfl)
theorem dX8_put_121 : decode cX8_put 121 = .ok (.ireturn, 1) := dk_172 (dk_at dksX8_put_5 6 rfl rfl)
theorem dX8_put_122 : decode cX8_put 122 = .ok (.aload_n 0, 1) := dk_42 (dk_at dksX8_put_5 7 rfl rfl)
theorem dX8_put_123 : decode cX8_put 123 = .ok (.getfield 9, 3) := dk_180 0 9 (dk_at dksX8_put_5 8 rfl rfl)
theorem dX8_put_126 : decode cX8_put 126 = .ok (.bipush 9, 2) := dk_16 9 (dk_at dksX8_put_5 11 rfl rfl)
theorem dX8_put_128 : decode cX8_put 128 = .ok (.iconst 4, 1) := dk_7 (dk_at dksX8_put_5 13 rfl rfl)
theorem dX8_put_129 : decode cX8_put 129 = .ok (.iload_n 2, 1) := dk_28 (dk_at dksX8_put_5 14 rfl rfl)
theorem dX8_put_130 : decode cX8_put 130 = .ok (.imul, 1) := dk_104 (dk_at dksX8_put_5 15 rfl rfl)
theorem dX8_put_131 : decode cX8_put 131 = .ok (.iadd, 1) := dk_96 (dk_at dksX8_put_5 16 rfl rfl)
theorem dX8_put_132 : decode cX8_put 132 = .ok (.iload_n 3, 1) := dk_29 (dk_at dksX8_put_5 17 rfl rfl)
theorem dX8_put_133 : decode cX8_put 133 = .ok (.iadd, 1) := dk_96 (dk_at dksX8_put_5 18 rfl rfl)
theorem dX8_put_134 : decode cX8_put 134 = .ok (.iload_n 1, 1) := dk_27 (dk_at dksX8_put_5 19 rfl rfl)
theorem dX8_put_135 : decode cX8_put 135 = .ok (.iastore, 1) := dk_79 (dk_at dksX8_put_5 20 rfl rfl)
theorem dX8_put_136 : decode cX8_put 136 = .ok (.aload_n 0, 1) := dk_42 (dk_at dksX8_put_5 21 rfl rfl)
theorem dX8_put_137 : decode cX8_put 137 = .ok (.getfield 9, 3) := dk_180 0 9 (dk_at dksX8_put_6 0 rfl rfl)
theorem dX8_put_140 : decode cX8_put 140 = .ok (.bipush 6, 2) := dk_16 6 (dk_at dksX8_put_6 3 rfl rfl)
theorem dX8_put_142 : decode cX8_put 142 = .ok (.iload_n 2, 1) := dk_28 (dk_at dksX8_put_6 5 rfl rfl)
theorem dX8_put_143 : decode cX8_put 143 = .ok (.iadd, 1) := dk_96 (dk_at dksX8_put_6 6 rfl rfl)
theorem dX8_put_144 : decode cX8_put 144 = .ok (.dup2, 1) := dk_92 (dk_at dksX8_put_6 7 rfl rfl)
theorem dX8_put_145 : decode cX8_put 145 = .ok (.iaload, 1) := dk_46 (dk_at dksX8_put_6 8 rfl rfl)
theorem dX8_put_146 : decode cX8_put 146 = .ok (.iconst 1, 1) := dk_4 (dk_at dksX8_put_6 9 rfl rfl)
theorem dX8_put_147 : decode cX8_put 147 = .ok (.iadd, 1) := dk_96 (dk_at dksX8_put_6 10 rfl rfl)
theorem dX8_put_148 : decode cX8_put 148 = .ok (.iastore, 1) := dk_79 (dk_at dksX8_put_6 11 rfl rfl)
theorem dX8_put_149 : decode cX8_put 149 = .ok (.aload_n 0, 1) := dk_42 (dk_at dksX8_put_6 12 rfl rfl)
theorem dX8_put_150 : decode cX8_put 150 = .ok (.iload_n 3, 1) := dk_29 (dk_at dksX8_put_6 13 rfl rfl)
theorem dX8_put_151 : decode cX8_put 151 = .ok (.iconst 1, 1) := dk_4 (dk_at dksX8_put_6 14 rfl rfl)
theorem dX8_put_152 : decode cX8_put 152 = .ok (.iadd, 1) := dk_96 (dk_at dksX8_put_6 15 rfl rfl)
theorem dX8_put_153 : decode cX8_put 153 = .ok (.invokevirtual 93, 3) := dk_182 0 93 (dk_at dksX8_put_6 16 rfl rfl)
theorem dX8_put_156 : decode cX8_put 156 = .ok (.ireturn, 1) := dk_172 (dk_at dksX8_put_6 19 rfl rfl)
abbrev cX8_isGood : ByteArray := prog_15_method_9_code
def yX8_isGood : MethodName := ⟨RX8, "isGood", "(I)Z"⟩
def dkwX8_isGood_0 : List UInt8 := [27, 3, 42, 180, 0, 9, 3, 46, 4, 100, 184, 0, 82, 172]
abbrev dktX8_isGood_0 : List UInt8 := dkwX8_isGood_0 ++ []
theorem dksX8_isGood_0 : cX8_isGood.data.toList.drop 0 = dktX8_isGood_0 := by decide +kernel
theorem dX8_isGood_0 : decode cX8_isGood 0 = .ok (.iload_n 1, 1) := dk_27 (dk_at dksX8_isGood_0 0 rfl rfl)
theorem dX8_isGood_1 : decode cX8_isGood 1 = .ok (.iconst 0, 1) := dk_3 (dk_at dksX8_isGood_0 1 rfl rfl)
theorem dX8_isGood_2 : decode cX8_isGood 2 = .ok (.aload_n 0, 1) := dk_42 (dk_at dksX8_isGood_0 2 rfl rfl)
theorem dX8_isGood_3 : decode cX8_isGood 3 = .ok (.getfield 9, 3) := dk_180 0 9 (dk_at dksX8_isGood_0 3 rfl rfl)
theorem dX8_isGood_6 : decode cX8_isGood 6 = .ok (.iconst 0, 1) := dk_3 (dk_at dksX8_isGood_0 6 rfl rfl)
theorem dX8_isGood_7 : decode cX8_isGood 7 = .ok (.iaload, 1) := dk_46 (dk_at dksX8_isGood_0 7 rfl rfl)
theorem dX8_isGood_8 : decode cX8_isGood 8 = .ok (.iconst 1, 1) := dk_4 (dk_at dksX8_isGood_0 8 rfl rfl)
theorem dX8_isGood_9 : decode cX8_isGood 9 = .ok (.isub, 1) := dk_100 (dk_at dksX8_isGood_0 9 rfl rfl)
theorem dX8_isGood_10 : decode cX8_isGood 10 = .ok (.invokestatic 82, 3) := dk_184 0 82 (dk_at dksX8_isGood_0 10 rfl rfl)
theorem dX8_isGood_13 : decode cX8_isGood 13 = .ok (.ireturn, 1) := dk_172 (dk_at dksX8_isGood_0 13 rfl rfl)
abbrev cX8_isChest : ByteArray := prog_15_method_10_code
def yX8_isChest : MethodName := ⟨RX8, "isChest", "(I)Z"⟩
def dkwX8_isChest_0 : List UInt8 := [26, 3, 5, 184, 0, 82, 172]
abbrev dktX8_isChest_0 : List UInt8 := dkwX8_isChest_0 ++ []
theorem dksX8_isChest_0 : cX8_isChest.data.toList.drop 0 = dktX8_isChest_0 := by decide +kernel
theorem dX8_isChest_0 : decode cX8_isChest 0 = .ok (.iload_n 0, 1) := dk_26 (dk_at dksX8_isChest_0 0 rfl rfl)
theorem dX8_isChest_1 : decode cX8_isChest 1 = .ok (.iconst 0, 1) := dk_3 (dk_at dksX8_isChest_0 1 rfl rfl)
theorem dX8_isChest_2 : decode cX8_isChest 2 = .ok (.iconst 2, 1) := dk_5 (dk_at dksX8_isChest_0 2 rfl rfl)
theorem dX8_isChest_3 : decode cX8_isChest 3 = .ok (.invokestatic 82, 3) := dk_184 0 82 (dk_at dksX8_isChest_0 3 rfl rfl)
theorem dX8_isChest_6 : decode cX8_isChest 6 = .ok (.ireturn, 1) := dk_172 (dk_at dksX8_isChest_0 6 rfl rfl)
abbrev cX8_placeOf : ByteArray := prog_15_method_12_code
def yX8_placeOf : MethodName := ⟨RX8, "placeOf", "(I)I"⟩
def dkwX8_placeOf_2 : List UInt8 := [21, 4, 167, 0, 4, 29, 62, 132, 4, 1, 167, 255, 214, 29, 172]
abbrev dktX8_placeOf_2 : List UInt8 := dkwX8_placeOf_2 ++ []
def dkwX8_placeOf_1 : List UInt8 := [96, 46, 162, 0, 34, 42, 180, 0, 9, 16, 9, 7, 28, 104, 96, 21, 4, 96, 46, 27, 160, 0, 8]
abbrev dktX8_placeOf_1 : List UInt8 := dkwX8_placeOf_1 ++ dktX8_placeOf_2
def dkwX8_placeOf_0 : List UInt8 := [42, 180, 0, 9, 16, 21, 27, 96, 46, 61, 2, 62, 3, 54, 4, 21, 4, 42, 180, 0, 9, 16, 6, 28]
abbrev dktX8_placeOf_0 : List UInt8 := dkwX8_placeOf_0 ++ dktX8_placeOf_1
theorem dksX8_placeOf_0 : cX8_placeOf.data.toList.drop 0 = dktX8_placeOf_0 := by decide +kernel
theorem dksX8_placeOf_1 : cX8_placeOf.data.toList.drop 24 = dktX8_placeOf_1 := dk_seg dksX8_placeOf_0 24 rfl rfl
theorem dksX8_placeOf_2 : cX8_placeOf.data.toList.drop 47 = dktX8_placeOf_2 := dk_seg dksX8_placeOf_1 23 rfl rfl
theorem dX8_placeOf_0 : decode cX8_placeOf 0 = .ok (.aload_n 0, 1) := dk_42 (dk_at dksX8_placeOf_0 0 rfl rfl)
theorem dX8_placeOf_1 : decode cX8_placeOf 1 = .ok (.getfield 9, 3) := dk_180 0 9 (dk_at dksX8_placeOf_0 1 rfl rfl)
theorem dX8_placeOf_4 : decode cX8_placeOf 4 = .ok (.bipush 21, 2) := dk_16 21 (dk_at dksX8_placeOf_0 4 rfl rfl)
theorem dX8_placeOf_6 : decode cX8_placeOf 6 = .ok (.iload_n 1, 1) := dk_27 (dk_at dksX8_placeOf_0 6 rfl rfl)
theorem dX8_placeOf_7 : decode cX8_placeOf 7 = .ok (.iadd, 1) := dk_96 (dk_at dksX8_placeOf_0 7 rfl rfl)
theorem dX8_placeOf_8 : decode cX8_placeOf 8 = .ok (.iaload, 1) := dk_46 (dk_at dksX8_placeOf_0 8 rfl rfl)
theorem dX8_placeOf_9 : decode cX8_placeOf 9 = .ok (.istore_n 2, 1) := dk_61 (dk_at dksX8_placeOf_0 9 rfl rfl)
theorem dX8_placeOf_10 : decode cX8_placeOf 10 = .ok (.iconst (-1), 1) := dk_2 (dk_at dksX8_placeOf_0 10 rfl rfl)
theorem dX8_placeOf_11 : decode cX8_placeOf 11 = .ok (.istore_n 3, 1) := dk_62 (dk_at dksX8_placeOf_0 11 rfl rfl)
theorem dX8_placeOf_12 : decode cX8_placeOf 12 = .ok (.iconst 0, 1) := dk_3 (dk_at dksX8_placeOf_0 12 rfl rfl)
theorem dX8_placeOf_13 : decode cX8_placeOf 13 = .ok (.istore 4, 2) := dk_54 4 (dk_at dksX8_placeOf_0 13 rfl rfl)
theorem dX8_placeOf_15 : decode cX8_placeOf 15 = .ok (.iload 4, 2) := dk_21 4 (dk_at dksX8_placeOf_0 15 rfl rfl)
theorem dX8_placeOf_17 : decode cX8_placeOf 17 = .ok (.aload_n 0, 1) := dk_42 (dk_at dksX8_placeOf_0 17 rfl rfl)
theorem dX8_placeOf_18 : decode cX8_placeOf 18 = .ok (.getfield 9, 3) := dk_180 0 9 (dk_at dksX8_placeOf_0 18 rfl rfl)
theorem dX8_placeOf_21 : decode cX8_placeOf 21 = .ok (.bipush 6, 2) := dk_16 6 (dk_at dksX8_placeOf_0 21 rfl rfl)
theorem dX8_placeOf_23 : decode cX8_placeOf 23 = .ok (.iload_n 2, 1) := dk_28 (dk_at dksX8_placeOf_0 23 rfl rfl)
theorem dX8_placeOf_24 : decode cX8_placeOf 24 = .ok (.iadd, 1) := dk_96 (dk_at dksX8_placeOf_1 0 rfl rfl)
theorem dX8_placeOf_25 : decode cX8_placeOf 25 = .ok (.iaload, 1) := dk_46 (dk_at dksX8_placeOf_1 1 rfl rfl)
theorem dX8_placeOf_26 : decode cX8_placeOf 26 = .ok (.if_icmp .ge 34, 3) := dk_162 0 34 (dk_at dksX8_placeOf_1 2 rfl rfl)
theorem dX8_placeOf_29 : decode cX8_placeOf 29 = .ok (.aload_n 0, 1) := dk_42 (dk_at dksX8_placeOf_1 5 rfl rfl)
theorem dX8_placeOf_30 : decode cX8_placeOf 30 = .ok (.getfield 9, 3) := dk_180 0 9 (dk_at dksX8_placeOf_1 6 rfl rfl)
theorem dX8_placeOf_33 : decode cX8_placeOf 33 = .ok (.bipush 9, 2) := dk_16 9 (dk_at dksX8_placeOf_1 9 rfl rfl)
theorem dX8_placeOf_35 : decode cX8_placeOf 35 = .ok (.iconst 4, 1) := dk_7 (dk_at dksX8_placeOf_1 11 rfl rfl)
theorem dX8_placeOf_36 : decode cX8_placeOf 36 = .ok (.iload_n 2, 1) := dk_28 (dk_at dksX8_placeOf_1 12 rfl rfl)
theorem dX8_placeOf_37 : decode cX8_placeOf 37 = .ok (.imul, 1) := dk_104 (dk_at dksX8_placeOf_1 13 rfl rfl)
theorem dX8_placeOf_38 : decode cX8_placeOf 38 = .ok (.iadd, 1) := dk_96 (dk_at dksX8_placeOf_1 14 rfl rfl)
theorem dX8_placeOf_39 : decode cX8_placeOf 39 = .ok (.iload 4, 2) := dk_21 4 (dk_at dksX8_placeOf_1 15 rfl rfl)
theorem dX8_placeOf_41 : decode cX8_placeOf 41 = .ok (.iadd, 1) := dk_96 (dk_at dksX8_placeOf_1 17 rfl rfl)
theorem dX8_placeOf_42 : decode cX8_placeOf 42 = .ok (.iaload, 1) := dk_46 (dk_at dksX8_placeOf_1 18 rfl rfl)
theorem dX8_placeOf_43 : decode cX8_placeOf 43 = .ok (.iload_n 1, 1) := dk_27 (dk_at dksX8_placeOf_1 19 rfl rfl)
theorem dX8_placeOf_44 : decode cX8_placeOf 44 = .ok (.if_icmp .ne 8, 3) := dk_160 0 8 (dk_at dksX8_placeOf_1 20 rfl rfl)
theorem dX8_placeOf_47 : decode cX8_placeOf 47 = .ok (.iload 4, 2) := dk_21 4 (dk_at dksX8_placeOf_2 0 rfl rfl)
theorem dX8_placeOf_49 : decode cX8_placeOf 49 = .ok (.goto 4, 3) := dk_167 0 4 (dk_at dksX8_placeOf_2 2 rfl rfl)
theorem dX8_placeOf_52 : decode cX8_placeOf 52 = .ok (.iload_n 3, 1) := dk_29 (dk_at dksX8_placeOf_2 5 rfl rfl)
theorem dX8_placeOf_53 : decode cX8_placeOf 53 = .ok (.istore_n 3, 1) := dk_62 (dk_at dksX8_placeOf_2 6 rfl rfl)
theorem dX8_placeOf_54 : decode cX8_placeOf 54 = .ok (.iinc 4 1, 3) := dk_132 4 1 (dk_at dksX8_placeOf_2 7 rfl rfl)
theorem dX8_placeOf_57 : decode cX8_placeOf 57 = .ok (.goto (-42), 3) := dk_167 255 214 (dk_at dksX8_placeOf_2 10 rfl rfl)
theorem dX8_placeOf_60 : decode cX8_placeOf 60 = .ok (.iload_n 3, 1) := dk_29 (dk_at dksX8_placeOf_2 13 rfl rfl)
theorem dX8_placeOf_61 : decode cX8_placeOf 61 = .ok (.ireturn, 1) := dk_172 (dk_at dksX8_placeOf_2 14 rfl rfl)
abbrev cX8_takeOut : ByteArray := prog_15_method_14_code
def yX8_takeOut : MethodName := ⟨RX8, "takeOut", "(I)I"⟩
def dkwX8_takeOut_5 : List UInt8 := [180, 0, 9, 16, 6, 28, 96, 46, 182, 0, 93, 172]
abbrev dktX8_takeOut_5 : List UInt8 := dkwX8_takeOut_5 ++ []
def dkwX8_takeOut_4 : List UInt8 := [46, 29, 100, 4, 100, 184, 0, 67, 42, 180, 0, 9, 16, 6, 28, 96, 92, 46, 4, 100, 79, 42, 42]
abbrev dktX8_takeOut_4 : List UInt8 := dkwX8_takeOut_4 ++ dktX8_takeOut_5
def dkwX8_takeOut_3 : List UInt8 := [54, 4, 42, 180, 0, 9, 21, 4, 4, 96, 42, 180, 0, 9, 21, 4, 42, 180, 0, 9, 16, 6, 28, 96]
abbrev dktX8_takeOut_3 : List UInt8 := dkwX8_takeOut_3 ++ dktX8_takeOut_4
def dkwX8_takeOut_2 : List UInt8 := [42, 180, 0, 9, 16, 6, 28, 96, 46, 182, 0, 96, 182, 0, 93, 172, 16, 9, 7, 28, 104, 96, 29, 96]
abbrev dktX8_takeOut_2 : List UInt8 := dkwX8_takeOut_2 ++ dktX8_takeOut_3
def dkwX8_takeOut_1 : List UInt8 := [180, 0, 9, 16, 21, 27, 96, 46, 61, 42, 27, 182, 0, 107, 62, 29, 156, 0, 24, 42, 42, 5, 16, 6]
abbrev dktX8_takeOut_1 : List UInt8 := dkwX8_takeOut_1 ++ dktX8_takeOut_2
def dkwX8_takeOut_0 : List UInt8 := [42, 182, 0, 86, 42, 27, 182, 0, 100, 154, 0, 13, 42, 42, 4, 182, 0, 89, 182, 0, 93, 172, 42]
abbrev dktX8_takeOut_0 : List UInt8 := dkwX8_takeOut_0 ++ dktX8_takeOut_1
theorem dksX8_takeOut_0 : cX8_takeOut.data.toList.drop 0 = dktX8_takeOut_0 := by decide +kernel
theorem dksX8_takeOut_1 : cX8_takeOut.data.toList.drop 23 = dktX8_takeOut_1 := dk_seg dksX8_takeOut_0 23 rfl rfl
theorem dksX8_takeOut_2 : cX8_takeOut.data.toList.drop 47 = dktX8_takeOut_2 := dk_seg dksX8_takeOut_1 24 rfl rfl
theorem dksX8_takeOut_3 : cX8_takeOut.data.toList.drop 71 = dktX8_takeOut_3 := dk_seg dksX8_takeOut_2 24 rfl rfl
theorem dksX8_takeOut_4 : cX8_takeOut.data.toList.drop 95 = dktX8_takeOut_4 := dk_seg dksX8_takeOut_3 24 rfl rfl
theorem dksX8_takeOut_5 : cX8_takeOut.data.toList.drop 118 = dktX8_takeOut_5 := dk_seg dksX8_takeOut_4 23 rfl rfl
theorem dX8_takeOut_0 : decode cX8_takeOut 0 = .ok (.aload_n 0, 1) := dk_42 (dk_at dksX8_takeOut_0 0 rfl rfl)
theorem dX8_takeOut_1 : decode cX8_takeOut 1 = .ok (.invokevirtual 86, 3) := dk_182 0 86 (dk_at dksX8_takeOut_0 1 rfl rfl)
theorem dX8_takeOut_4 : decode cX8_takeOut 4 = .ok (.aload_n 0, 1) := dk_42 (dk_at dksX8_takeOut_0 4 rfl rfl)
theorem dX8_takeOut_5 : decode cX8_takeOut 5 = .ok (.iload_n 1, 1) := dk_27 (dk_at dksX8_takeOut_0 5 rfl rfl)
theorem dX8_takeOut_6 : decode cX8_takeOut 6 = .ok (.invokevirtual 100, 3) := dk_182 0 100 (dk_at dksX8_takeOut_0 6 rfl rfl)
theorem dX8_takeOut_9 : decode cX8_takeOut 9 = .ok (.ifCond .ne 13, 3) := dk_154 0 13 (dk_at dksX8_takeOut_0 9 rfl rfl)
theorem dX8_takeOut_12 : decode cX8_takeOut 12 = .ok (.aload_n 0, 1) := dk_42 (dk_at dksX8_takeOut_0 12 rfl rfl)
theorem dX8_takeOut_13 : decode cX8_takeOut 13 = .ok (.aload_n 0, 1) := dk_42 (dk_at dksX8_takeOut_0 13 rfl rfl)
theorem dX8_takeOut_14 : decode cX8_takeOut 14 = .ok (.iconst 1, 1) := dk_4 (dk_at dksX8_takeOut_0 14 rfl rfl)
theorem dX8_takeOut_15 : decode cX8_takeOut 15 = .ok (.invokevirtual 89, 3) := dk_182 0 89 (dk_at dksX8_takeOut_0 15 rfl rfl)
theorem dX8_takeOut_18 : decode cX8_takeOut 18 = .ok (.invokevirtual 93, 3) := dk_182 0 93 (dk_at dksX8_takeOut_0 18 rfl rfl)
theorem dX8_takeOut_21 : decode cX8_takeOut 21 = .ok (.ireturn, 1) := dk_172 (dk_at dksX8_takeOut_0 21 rfl rfl)
theorem dX8_takeOut_22 : decode cX8_takeOut 22 = .ok (.aload_n 0, 1) := dk_42 (dk_at dksX8_takeOut_0 22 rfl rfl)
theorem dX8_takeOut_23 : decode cX8_takeOut 23 = .ok (.getfield 9, 3) := dk_180 0 9 (dk_at dksX8_takeOut_1 0 rfl rfl)
theorem dX8_takeOut_26 : decode cX8_takeOut 26 = .ok (.bipush 21, 2) := dk_16 21 (dk_at dksX8_takeOut_1 3 rfl rfl)
theorem dX8_takeOut_28 : decode cX8_takeOut 28 = .ok (.iload_n 1, 1) := dk_27 (dk_at dksX8_takeOut_1 5 rfl rfl)
theorem dX8_takeOut_29 : decode cX8_takeOut 29 = .ok (.iadd, 1) := dk_96 (dk_at dksX8_takeOut_1 6 rfl rfl)
theorem dX8_takeOut_30 : decode cX8_takeOut 30 = .ok (.iaload, 1) := dk_46 (dk_at dksX8_takeOut_1 7 rfl rfl)
theorem dX8_takeOut_31 : decode cX8_takeOut 31 = .ok (.istore_n 2, 1) := dk_61 (dk_at dksX8_takeOut_1 8 rfl rfl)
theorem dX8_takeOut_32 : decode cX8_takeOut 32 = .ok (.aload_n 0, 1) := dk_42 (dk_at dksX8_takeOut_1 9 rfl rfl)
theorem dX8_takeOut_33 : decode cX8_takeOut 33 = .ok (.iload_n 1, 1) := dk_27 (dk_at dksX8_takeOut_1 10 rfl rfl)
theorem dX8_takeOut_34 : decode cX8_takeOut 34 = .ok (.invokevirtual 107, 3) := dk_182 0 107 (dk_at dksX8_takeOut_1 11 rfl rfl)
theorem dX8_takeOut_37 : decode cX8_takeOut 37 = .ok (.istore_n 3, 1) := dk_62 (dk_at dksX8_takeOut_1 14 rfl rfl)
theorem dX8_takeOut_38 : decode cX8_takeOut 38 = .ok (.iload_n 3, 1) := dk_29 (dk_at dksX8_takeOut_1 15 rfl rfl)
theorem dX8_takeOut_39 : decode cX8_takeOut 39 = .ok (.ifCond .ge 24, 3) := dk_156 0 24 (dk_at dksX8_takeOut_1 16 rfl rfl)
theorem dX8_takeOut_42 : decode cX8_takeOut 42 = .ok (.aload_n 0, 1) := dk_42 (dk_at dksX8_takeOut_1 19 rfl rfl)
theorem dX8_takeOut_43 : decode cX8_takeOut 43 = .ok (.aload_n 0, 1) := dk_42 (dk_at dksX8_takeOut_1 20 rfl rfl)
theorem dX8_takeOut_44 : decode cX8_takeOut 44 = .ok (.iconst 2, 1) := dk_5 (dk_at dksX8_takeOut_1 21 rfl rfl)
theorem dX8_takeOut_45 : decode cX8_takeOut 45 = .ok (.bipush 6, 2) := dk_16 6 (dk_at dksX8_takeOut_1 22 rfl rfl)
theorem dX8_takeOut_47 : decode cX8_takeOut 47 = .ok (.aload_n 0, 1) := dk_42 (dk_at dksX8_takeOut_2 0 rfl rfl)
theorem dX8_takeOut_48 : decode cX8_takeOut 48 = .ok (.getfield 9, 3) := dk_180 0 9 (dk_at dksX8_takeOut_2 1 rfl rfl)
theorem dX8_takeOut_51 : decode cX8_takeOut 51 = .ok (.bipush 6, 2) := dk_16 6 (dk_at dksX8_takeOut_2 4 rfl rfl)
theorem dX8_takeOut_53 : decode cX8_takeOut 53 = .ok (.iload_n 2, 1) := dk_28 (dk_at dksX8_takeOut_2 6 rfl rfl)
theorem dX8_takeOut_54 : decode cX8_takeOut 54 = .ok (.iadd, 1) := dk_96 (dk_at dksX8_takeOut_2 7 rfl rfl)
theorem dX8_takeOut_55 : decode cX8_takeOut 55 = .ok (.iaload, 1) := dk_46 (dk_at dksX8_takeOut_2 8 rfl rfl)
theorem dX8_takeOut_56 : decode cX8_takeOut 56 = .ok (.invokevirtual 96, 3) := dk_182 0 96 (dk_at dksX8_takeOut_2 9 rfl rfl)
theorem dX8_takeOut_59 : decode cX8_takeOut 59 = .ok (.invokevirtual 93, 3) := dk_182 0 93 (dk_at dksX8_takeOut_2 12 rfl rfl)
theorem dX8_takeOut_62 : decode cX8_takeOut 62 = .ok (.ireturn, 1) := dk_172 (dk_at dksX8_takeOut_2 15 rfl rfl)
theorem dX8_takeOut_63 : decode cX8_takeOut 63 = .ok (.bipush 9, 2) := dk_16 9 (dk_at dksX8_takeOut_2 16 rfl rfl)
theorem dX8_takeOut_65 : decode cX8_takeOut 65 = .ok (.iconst 4, 1) := dk_7 (dk_at dksX8_takeOut_2 18 rfl rfl)
theorem dX8_takeOut_66 : decode cX8_takeOut 66 = .ok (.iload_n 2, 1) := dk_28 (dk_at dksX8_takeOut_2 19 rfl rfl)
theorem dX8_takeOut_67 : decode cX8_takeOut 67 = .ok (.imul, 1) := dk_104 (dk_at dksX8_takeOut_2 20 rfl rfl)
theorem dX8_takeOut_68 : decode cX8_takeOut 68 = .ok (.iadd, 1) := dk_96 (dk_at dksX8_takeOut_2 21 rfl rfl)
theorem dX8_takeOut_69 : decode cX8_takeOut 69 = .ok (.iload_n 3, 1) := dk_29 (dk_at dksX8_takeOut_2 22 rfl rfl)
theorem dX8_takeOut_70 : decode cX8_takeOut 70 = .ok (.iadd, 1) := dk_96 (dk_at dksX8_takeOut_2 23 rfl rfl)
theorem dX8_takeOut_71 : decode cX8_takeOut 71 = .ok (.istore 4, 2) := dk_54 4 (dk_at dksX8_takeOut_3 0 rfl rfl)
theorem dX8_takeOut_73 : decode cX8_takeOut 73 = .ok (.aload_n 0, 1) := dk_42 (dk_at dksX8_takeOut_3 2 rfl rfl)
theorem dX8_takeOut_74 : decode cX8_takeOut 74 = .ok (.getfield 9, 3) := dk_180 0 9 (dk_at dksX8_takeOut_3 3 rfl rfl)
theorem dX8_takeOut_77 : decode cX8_takeOut 77 = .ok (.iload 4, 2) := dk_21 4 (dk_at dksX8_takeOut_3 6 rfl rfl)
theorem dX8_takeOut_79 : decode cX8_takeOut 79 = .ok (.iconst 1, 1) := dk_4 (dk_at dksX8_takeOut_3 8 rfl rfl)
theorem dX8_takeOut_80 : decode cX8_takeOut 80 = .ok (.iadd, 1) := dk_96 (dk_at dksX8_takeOut_3 9 rfl rfl)
theorem dX8_takeOut_81 : decode cX8_takeOut 81 = .ok (.aload_n 0, 1) := dk_42 (dk_at dksX8_takeOut_3 10 rfl rfl)
theorem dX8_takeOut_82 : decode cX8_takeOut 82 = .ok (.getfield 9, 3) := dk_180 0 9 (dk_at dksX8_takeOut_3 11 rfl rfl)
theorem dX8_takeOut_85 : decode cX8_takeOut 85 = .ok (.iload 4, 2) := dk_21 4 (dk_at dksX8_takeOut_3 14 rfl rfl)
theorem dX8_takeOut_87 : decode cX8_takeOut 87 = .ok (.aload_n 0, 1) := dk_42 (dk_at dksX8_takeOut_3 16 rfl rfl)
theorem dX8_takeOut_88 : decode cX8_takeOut 88 = .ok (.getfield 9, 3) := dk_180 0 9 (dk_at dksX8_takeOut_3 17 rfl rfl)
theorem dX8_takeOut_91 : decode cX8_takeOut 91 = .ok (.bipush 6, 2) := dk_16 6 (dk_at dksX8_takeOut_3 20 rfl rfl)
theorem dX8_takeOut_93 : decode cX8_takeOut 93 = .ok (.iload_n 2, 1) := dk_28 (dk_at dksX8_takeOut_3 22 rfl rfl)
theorem dX8_takeOut_94 : decode cX8_takeOut 94 = .ok (.iadd, 1) := dk_96 (dk_at dksX8_takeOut_3 23 rfl rfl)
theorem dX8_takeOut_95 : decode cX8_takeOut 95 = .ok (.iaload, 1) := dk_46 (dk_at dksX8_takeOut_4 0 rfl rfl)
theorem dX8_takeOut_96 : decode cX8_takeOut 96 = .ok (.iload_n 3, 1) := dk_29 (dk_at dksX8_takeOut_4 1 rfl rfl)
theorem dX8_takeOut_97 : decode cX8_takeOut 97 = .ok (.isub, 1) := dk_100 (dk_at dksX8_takeOut_4 2 rfl rfl)
theorem dX8_takeOut_98 : decode cX8_takeOut 98 = .ok (.iconst 1, 1) := dk_4 (dk_at dksX8_takeOut_4 3 rfl rfl)
theorem dX8_takeOut_99 : decode cX8_takeOut 99 = .ok (.isub, 1) := dk_100 (dk_at dksX8_takeOut_4 4 rfl rfl)
theorem dX8_takeOut_100 : decode cX8_takeOut 100 = .ok (.invokestatic 67, 3) := dk_184 0 67 (dk_at dksX8_takeOut_4 5 rfl rfl)
theorem dX8_takeOut_103 : decode cX8_takeOut 103 = .ok (.aload_n 0, 1) := dk_42 (dk_at dksX8_takeOut_4 8 rfl rfl)
theorem dX8_takeOut_104 : decode cX8_takeOut 104 = .ok (.getfield 9, 3) := dk_180 0 9 (dk_at dksX8_takeOut_4 9 rfl rfl)
theorem dX8_takeOut_107 : decode cX8_takeOut 107 = .ok (.bipush 6, 2) := dk_16 6 (dk_at dksX8_takeOut_4 12 rfl rfl)
theorem dX8_takeOut_109 : decode cX8_takeOut 109 = .ok (.iload_n 2, 1) := dk_28 (dk_at dksX8_takeOut_4 14 rfl rfl)
theorem dX8_takeOut_110 : decode cX8_takeOut 110 = .ok (.iadd, 1) := dk_96 (dk_at dksX8_takeOut_4 15 rfl rfl)
theorem dX8_takeOut_111 : decode cX8_takeOut 111 = .ok (.dup2, 1) := dk_92 (dk_at dksX8_takeOut_4 16 rfl rfl)
theorem dX8_takeOut_112 : decode cX8_takeOut 112 = .ok (.iaload, 1) := dk_46 (dk_at dksX8_takeOut_4 17 rfl rfl)
theorem dX8_takeOut_113 : decode cX8_takeOut 113 = .ok (.iconst 1, 1) := dk_4 (dk_at dksX8_takeOut_4 18 rfl rfl)
theorem dX8_takeOut_114 : decode cX8_takeOut 114 = .ok (.isub, 1) := dk_100 (dk_at dksX8_takeOut_4 19 rfl rfl)
theorem dX8_takeOut_115 : decode cX8_takeOut 115 = .ok (.iastore, 1) := dk_79 (dk_at dksX8_takeOut_4 20 rfl rfl)
theorem dX8_takeOut_116 : decode cX8_takeOut 116 = .ok (.aload_n 0, 1) := dk_42 (dk_at dksX8_takeOut_4 21 rfl rfl)
theorem dX8_takeOut_117 : decode cX8_takeOut 117 = .ok (.aload_n 0, 1) := dk_42 (dk_at dksX8_takeOut_4 22 rfl rfl)
theorem dX8_takeOut_118 : decode cX8_takeOut 118 = .ok (.getfield 9, 3) := dk_180 0 9 (dk_at dksX8_takeOut_5 0 rfl rfl)
theorem dX8_takeOut_121 : decode cX8_takeOut 121 = .ok (.bipush 6, 2) := dk_16 6 (dk_at dksX8_takeOut_5 3 rfl rfl)
theorem dX8_takeOut_123 : decode cX8_takeOut 123 = .ok (.iload_n 2, 1) := dk_28 (dk_at dksX8_takeOut_5 5 rfl rfl)
theorem dX8_takeOut_124 : decode cX8_takeOut 124 = .ok (.iadd, 1) := dk_96 (dk_at dksX8_takeOut_5 6 rfl rfl)
theorem dX8_takeOut_125 : decode cX8_takeOut 125 = .ok (.iaload, 1) := dk_46 (dk_at dksX8_takeOut_5 7 rfl rfl)
theorem dX8_takeOut_126 : decode cX8_takeOut 126 = .ok (.invokevirtual 93, 3) := dk_182 0 93 (dk_at dksX8_takeOut_5 8 rfl rfl)
theorem dX8_takeOut_129 : decode cX8_takeOut 129 = .ok (.ireturn, 1) := dk_172 (dk_at dksX8_takeOut_5 11 rfl rfl)
abbrev cX8_rate : ByteArray := prog_15_method_15_code
def yX8_rate : MethodName := ⟨RX8, "rate", "(II)I"⟩
def dkwX8_rate_3 : List UInt8 := [172]
abbrev dktX8_rate_3 : List UInt8 := dkwX8_rate_3 ++ []
def dkwX8_rate_2 : List UInt8 := [16, 7, 28, 182, 0, 96, 182, 0, 93, 172, 42, 180, 0, 9, 6, 27, 96, 28, 79, 42, 29, 182, 0, 93]
abbrev dktX8_rate_2 : List UInt8 := dkwX8_rate_2 ++ dktX8_rate_3
def dkwX8_rate_1 : List UInt8 := [182, 0, 89, 182, 0, 93, 172, 42, 180, 0, 9, 6, 27, 96, 46, 62, 29, 28, 160, 0, 16, 42, 42, 5]
abbrev dktX8_rate_1 : List UInt8 := dkwX8_rate_1 ++ dktX8_rate_2
def dkwX8_rate_0 : List UInt8 := [42, 182, 0, 86, 27, 184, 0, 104, 153, 0, 13, 28, 3, 16, 100, 184, 0, 82, 154, 0, 13, 42, 42, 4]
abbrev dktX8_rate_0 : List UInt8 := dkwX8_rate_0 ++ dktX8_rate_1
theorem dksX8_rate_0 : cX8_rate.data.toList.drop 0 = dktX8_rate_0 := by decide +kernel
theorem dksX8_rate_1 : cX8_rate.data.toList.drop 24 = dktX8_rate_1 := dk_seg dksX8_rate_0 24 rfl rfl
theorem dksX8_rate_2 : cX8_rate.data.toList.drop 48 = dktX8_rate_2 := dk_seg dksX8_rate_1 24 rfl rfl
theorem dksX8_rate_3 : cX8_rate.data.toList.drop 72 = dktX8_rate_3 := dk_seg dksX8_rate_2 24 rfl rfl
theorem dX8_rate_0 : decode cX8_rate 0 = .ok (.aload_n 0, 1) := dk_42 (dk_at dksX8_rate_0 0 rfl rfl)
theorem dX8_rate_1 : decode cX8_rate 1 = .ok (.invokevirtual 86, 3) := dk_182 0 86 (dk_at dksX8_rate_0 1 rfl rfl)
theorem dX8_rate_4 : decode cX8_rate 4 = .ok (.iload_n 1, 1) := dk_27 (dk_at dksX8_rate_0 4 rfl rfl)
theorem dX8_rate_5 : decode cX8_rate 5 = .ok (.invokestatic 104, 3) := dk_184 0 104 (dk_at dksX8_rate_0 5 rfl rfl)
theorem dX8_rate_8 : decode cX8_rate 8 = .ok (.ifCond .eq 13, 3) := dk_153 0 13 (dk_at dksX8_rate_0 8 rfl rfl)
theorem dX8_rate_11 : decode cX8_rate 11 = .ok (.iload_n 2, 1) := dk_28 (dk_at dksX8_rate_0 11 rfl rfl)
theorem dX8_rate_12 : decode cX8_rate 12 = .ok (.iconst 0, 1) := dk_3 (dk_at dksX8_rate_0 12 rfl rfl)
theorem dX8_rate_13 : decode cX8_rate 13 = .ok (.bipush 100, 2) := dk_16 100 (dk_at dksX8_rate_0 13 rfl rfl)
theorem dX8_rate_15 : decode cX8_rate 15 = .ok (.invokestatic 82, 3) := dk_184 0 82 (dk_at dksX8_rate_0 15 rfl rfl)
theorem dX8_rate_18 : decode cX8_rate 18 = .ok (.ifCond .ne 13, 3) := dk_154 0 13 (dk_at dksX8_rate_0 18 rfl rfl)
theorem dX8_rate_21 : decode cX8_rate 21 = .ok (.aload_n 0, 1) := dk_42 (dk_at dksX8_rate_0 21 rfl rfl)
theorem dX8_rate_22 : decode cX8_rate 22 = .ok (.aload_n 0, 1) := dk_42 (dk_at dksX8_rate_0 22 rfl rfl)
theorem dX8_rate_23 : decode cX8_rate 23 = .ok (.iconst 1, 1) := dk_4 (dk_at dksX8_rate_0 23 rfl rfl)
theorem dX8_rate_24 : decode cX8_rate 24 = .ok (.invokevirtual 89, 3) := dk_182 0 89 (dk_at dksX8_rate_1 0 rfl rfl)
theorem dX8_rate_27 : decode cX8_rate 27 = .ok (.invokevirtual 93, 3) := dk_182 0 93 (dk_at dksX8_rate_1 3 rfl rfl)
theorem dX8_rate_30 : decode cX8_rate 30 = .ok (.ireturn, 1) := dk_172 (dk_at dksX8_rate_1 6 rfl rfl)
theorem dX8_rate_31 : decode cX8_rate 31 = .ok (.aload_n 0, 1) := dk_42 (dk_at dksX8_rate_1 7 rfl rfl)
theorem dX8_rate_32 : decode cX8_rate 32 = .ok (.getfield 9, 3) := dk_180 0 9 (dk_at dksX8_rate_1 8 rfl rfl)
theorem dX8_rate_35 : decode cX8_rate 35 = .ok (.iconst 3, 1) := dk_6 (dk_at dksX8_rate_1 11 rfl rfl)
theorem dX8_rate_36 : decode cX8_rate 36 = .ok (.iload_n 1, 1) := dk_27 (dk_at dksX8_rate_1 12 rfl rfl)
theorem dX8_rate_37 : decode cX8_rate 37 = .ok (.iadd, 1) := dk_96 (dk_at dksX8_rate_1 13 rfl rfl)
theorem dX8_rate_38 : decode cX8_rate 38 = .ok (.iaload, 1) := dk_46 (dk_at dksX8_rate_1 14 rfl rfl)
theorem dX8_rate_39 : decode cX8_rate 39 = .ok (.istore_n 3, 1) := dk_62 (dk_at dksX8_rate_1 15 rfl rfl)
theorem dX8_rate_40 : decode cX8_rate 40 = .ok (.iload_n 3, 1) := dk_29 (dk_at dksX8_rate_1 16 rfl rfl)
theorem dX8_rate_41 : decode cX8_rate 41 = .ok (.iload_n 2, 1) := dk_28 (dk_at dksX8_rate_1 17 rfl rfl)
theorem dX8_rate_42 : decode cX8_rate 42 = .ok (.if_icmp .ne 16, 3) := dk_160 0 16 (dk_at dksX8_rate_1 18 rfl rfl)
theorem dX8_rate_45 : decode cX8_rate 45 = .ok (.aload_n 0, 1) := dk_42 (dk_at dksX8_rate_1 21 rfl rfl)
theorem dX8_rate_46 : decode cX8_rate 46 = .ok (.aload_n 0, 1) := dk_42 (dk_at dksX8_rate_1 22 rfl rfl)
theorem dX8_rate_47 : decode cX8_rate 47 = .ok (.iconst 2, 1) := dk_5 (dk_at dksX8_rate_1 23 rfl rfl)
theorem dX8_rate_48 : decode cX8_rate 48 = .ok (.bipush 7, 2) := dk_16 7 (dk_at dksX8_rate_2 0 rfl rfl)
theorem dX8_rate_50 : decode cX8_rate 50 = .ok (.iload_n 2, 1) := dk_28 (dk_at dksX8_rate_2 2 rfl rfl)
theorem dX8_rate_51 : decode cX8_rate 51 = .ok (.invokevirtual 96, 3) := dk_182 0 96 (dk_at dksX8_rate_2 3 rfl rfl)
theorem dX8_rate_54 : decode cX8_rate 54 = .ok (.invokevirtual 93, 3) := dk_182 0 93 (dk_at dksX8_rate_2 6 rfl rfl)
theorem dX8_rate_57 : decode cX8_rate 57 = .ok (.ireturn, 1) := dk_172 (dk_at dksX8_rate_2 9 rfl rfl)
theorem dX8_rate_58 : decode cX8_rate 58 = .ok (.aload_n 0, 1) := dk_42 (dk_at dksX8_rate_2 10 rfl rfl)
theorem dX8_rate_59 : decode cX8_rate 59 = .ok (.getfield 9, 3) := dk_180 0 9 (dk_at dksX8_rate_2 11 rfl rfl)
theorem dX8_rate_62 : decode cX8_rate 62 = .ok (.iconst 3, 1) := dk_6 (dk_at dksX8_rate_2 14 rfl rfl)
theorem dX8_rate_63 : decode cX8_rate 63 = .ok (.iload_n 1, 1) := dk_27 (dk_at dksX8_rate_2 15 rfl rfl)
theorem dX8_rate_64 : decode cX8_rate 64 = .ok (.iadd, 1) := dk_96 (dk_at dksX8_rate_2 16 rfl rfl)
theorem dX8_rate_65 : decode cX8_rate 65 = .ok (.iload_n 2, 1) := dk_28 (dk_at dksX8_rate_2 17 rfl rfl)
theorem dX8_rate_66 : decode cX8_rate 66 = .ok (.iastore, 1) := dk_79 (dk_at dksX8_rate_2 18 rfl rfl)
theorem dX8_rate_67 : decode cX8_rate 67 = .ok (.aload_n 0, 1) := dk_42 (dk_at dksX8_rate_2 19 rfl rfl)
theorem dX8_rate_68 : decode cX8_rate 68 = .ok (.iload_n 3, 1) := dk_29 (dk_at dksX8_rate_2 20 rfl rfl)
theorem dX8_rate_69 : decode cX8_rate 69 = .ok (.invokevirtual 93, 3) := dk_182 0 93 (dk_at dksX8_rate_2 21 rfl rfl)
theorem dX8_rate_72 : decode cX8_rate 72 = .ok (.ireturn, 1) := dk_172 (dk_at dksX8_rate_3 0 rfl rfl)
abbrev cX8_goodOf : ByteArray := prog_15_method_17_code
def yX8_goodOf : MethodName := ⟨RX8, "goodOf", "(II)I"⟩
def dkwX8_goodOf_5 : List UInt8 := [182, 0, 116, 172]
abbrev dktX8_goodOf_5 : List UInt8 := dkwX8_goodOf_5 ++ []
def dkwX8_goodOf_4 : List UInt8 := [182, 0, 107, 172, 42, 27, 5, 5, 182, 0, 116, 172, 42, 27, 6, 6, 182, 0, 116, 172, 42, 27, 7, 8]
abbrev dktX8_goodOf_4 : List UInt8 := dkwX8_goodOf_4 ++ dktX8_goodOf_5
def dkwX8_goodOf_3 : List UInt8 := [42, 180, 0, 9, 16, 21, 27, 96, 46, 172, 42, 180, 0, 9, 16, 29, 27, 96, 46, 172, 42, 27]
abbrev dktX8_goodOf_3 : List UInt8 := dkwX8_goodOf_3 ++ dktX8_goodOf_4
def dkwX8_goodOf_2 : List UInt8 := [170, 0, 0, 0, 0, 0, 0, 78, 0, 0, 0, 0, 0, 0, 0, 4, 0, 0, 0, 36, 0, 0, 0, 46, 0, 0, 0, 56, 0, 0, 0, 62, 0, 0, 0, 70]
abbrev dktX8_goodOf_2 : List UInt8 := dkwX8_goodOf_2 ++ dktX8_goodOf_3
def dkwX8_goodOf_1 : List UInt8 := [167, 0, 4, 3, 181, 0, 64, 42, 180, 0, 64, 158, 0, 5, 3, 172, 28]
abbrev dktX8_goodOf_1 : List UInt8 := dkwX8_goodOf_1 ++ dktX8_goodOf_2
def dkwX8_goodOf_0 : List UInt8 := [42, 42, 27, 182, 0, 100, 154, 0, 7, 4, 167, 0, 17, 28, 3, 8, 184, 0, 82, 154, 0, 7, 5]
abbrev dktX8_goodOf_0 : List UInt8 := dkwX8_goodOf_0 ++ dktX8_goodOf_1
theorem dksX8_goodOf_0 : cX8_goodOf.data.toList.drop 0 = dktX8_goodOf_0 := by decide +kernel
theorem dksX8_goodOf_1 : cX8_goodOf.data.toList.drop 23 = dktX8_goodOf_1 := dk_seg dksX8_goodOf_0 23 rfl rfl
theorem dksX8_goodOf_2 : cX8_goodOf.data.toList.drop 40 = dktX8_goodOf_2 := dk_seg dksX8_goodOf_1 17 rfl rfl
theorem dksX8_goodOf_3 : cX8_goodOf.data.toList.drop 76 = dktX8_goodOf_3 := dk_seg dksX8_goodOf_2 36 rfl rfl
theorem dksX8_goodOf_4 : cX8_goodOf.data.toList.drop 98 = dktX8_goodOf_4 := dk_seg dksX8_goodOf_3 22 rfl rfl
theorem dksX8_goodOf_5 : cX8_goodOf.data.toList.drop 122 = dktX8_goodOf_5 := dk_seg dksX8_goodOf_4 24 rfl rfl
theorem dX8_goodOf_0 : decode cX8_goodOf 0 = .ok (.aload_n 0, 1) := dk_42 (dk_at dksX8_goodOf_0 0 rfl rfl)
theorem dX8_goodOf_1 : decode cX8_goodOf 1 = .ok (.aload_n 0, 1) := dk_42 (dk_at dksX8_goodOf_0 1 rfl rfl)
theorem dX8_goodOf_2 : decode cX8_goodOf 2 = .ok (.iload_n 1, 1) := dk_27 (dk_at dksX8_goodOf_0 2 rfl rfl)
theorem dX8_goodOf_3 : decode cX8_goodOf 3 = .ok (.invokevirtual 100, 3) := dk_182 0 100 (dk_at dksX8_goodOf_0 3 rfl rfl)
theorem dX8_goodOf_6 : decode cX8_goodOf 6 = .ok (.ifCond .ne 7, 3) := dk_154 0 7 (dk_at dksX8_goodOf_0 6 rfl rfl)
theorem dX8_goodOf_9 : decode cX8_goodOf 9 = .ok (.iconst 1, 1) := dk_4 (dk_at dksX8_goodOf_0 9 rfl rfl)
theorem dX8_goodOf_10 : decode cX8_goodOf 10 = .ok (.goto 17, 3) := dk_167 0 17 (dk_at dksX8_goodOf_0 10 rfl rfl)
theorem dX8_goodOf_13 : decode cX8_goodOf 13 = .ok (.iload_n 2, 1) := dk_28 (dk_at dksX8_goodOf_0 13 rfl rfl)
theorem dX8_goodOf_14 : decode cX8_goodOf 14 = .ok (.iconst 0, 1) := dk_3 (dk_at dksX8_goodOf_0 14 rfl rfl)
theorem dX8_goodOf_15 : decode cX8_goodOf 15 = .ok (.iconst 5, 1) := dk_8 (dk_at dksX8_goodOf_0 15 rfl rfl)
theorem dX8_goodOf_16 : decode cX8_goodOf 16 = .ok (.invokestatic 82, 3) := dk_184 0 82 (dk_at dksX8_goodOf_0 16 rfl rfl)
theorem dX8_goodOf_19 : decode cX8_goodOf 19 = .ok (.ifCond .ne 7, 3) := dk_154 0 7 (dk_at dksX8_goodOf_0 19 rfl rfl)
theorem dX8_goodOf_22 : decode cX8_goodOf 22 = .ok (.iconst 2, 1) := dk_5 (dk_at dksX8_goodOf_0 22 rfl rfl)
theorem dX8_goodOf_23 : decode cX8_goodOf 23 = .ok (.goto 4, 3) := dk_167 0 4 (dk_at dksX8_goodOf_1 0 rfl rfl)
theorem dX8_goodOf_26 : decode cX8_goodOf 26 = .ok (.iconst 0, 1) := dk_3 (dk_at dksX8_goodOf_1 3 rfl rfl)
theorem dX8_goodOf_27 : decode cX8_goodOf 27 = .ok (.putfield 64, 3) := dk_181 0 64 (dk_at dksX8_goodOf_1 4 rfl rfl)
theorem dX8_goodOf_30 : decode cX8_goodOf 30 = .ok (.aload_n 0, 1) := dk_42 (dk_at dksX8_goodOf_1 7 rfl rfl)
theorem dX8_goodOf_31 : decode cX8_goodOf 31 = .ok (.getfield 64, 3) := dk_180 0 64 (dk_at dksX8_goodOf_1 8 rfl rfl)
theorem dX8_goodOf_34 : decode cX8_goodOf 34 = .ok (.ifCond .le 5, 3) := dk_158 0 5 (dk_at dksX8_goodOf_1 11 rfl rfl)
theorem dX8_goodOf_37 : decode cX8_goodOf 37 = .ok (.iconst 0, 1) := dk_3 (dk_at dksX8_goodOf_1 14 rfl rfl)
theorem dX8_goodOf_38 : decode cX8_goodOf 38 = .ok (.ireturn, 1) := dk_172 (dk_at dksX8_goodOf_1 15 rfl rfl)
theorem dX8_goodOf_39 : decode cX8_goodOf 39 = .ok (.iload_n 2, 1) := dk_28 (dk_at dksX8_goodOf_1 16 rfl rfl)
theorem dX8_goodOf_40 : decode cX8_goodOf 40 = .ok (.tableswitch 78 0 4 #[36, 46, 56, 62, 70], 36) := by decide +kernel
theorem dX8_goodOf_76 : decode cX8_goodOf 76 = .ok (.aload_n 0, 1) := dk_42 (dk_at dksX8_goodOf_3 0 rfl rfl)
theorem dX8_goodOf_77 : decode cX8_goodOf 77 = .ok (.getfield 9, 3) := dk_180 0 9 (dk_at dksX8_goodOf_3 1 rfl rfl)
theorem dX8_goodOf_80 : decode cX8_goodOf 80 = .ok (.bipush 21, 2) := dk_16 21 (dk_at dksX8_goodOf_3 4 rfl rfl)
theorem dX8_goodOf_82 : decode cX8_goodOf 82 = .ok (.iload_n 1, 1) := dk_27 (dk_at dksX8_goodOf_3 6 rfl rfl)
theorem dX8_goodOf_83 : decode cX8_goodOf 83 = .ok (.iadd, 1) := dk_96 (dk_at dksX8_goodOf_3 7 rfl rfl)
theorem dX8_goodOf_84 : decode cX8_goodOf 84 = .ok (.iaload, 1) := dk_46 (dk_at dksX8_goodOf_3 8 rfl rfl)
theorem dX8_goodOf_85 : decode cX8_goodOf 85 = .ok (.ireturn, 1) := dk_172 (dk_at dksX8_goodOf_3 9 rfl rfl)
theorem dX8_goodOf_86 : decode cX8_goodOf 86 = .ok (.aload_n 0, 1) := dk_42 (dk_at dksX8_goodOf_3 10 rfl rfl)
theorem dX8_goodOf_87 : decode cX8_goodOf 87 = .ok (.getfield 9, 3) := dk_180 0 9 (dk_at dksX8_goodOf_3 11 rfl rfl)
theorem dX8_goodOf_90 : decode cX8_goodOf 90 = .ok (.bipush 29, 2) := dk_16 29 (dk_at dksX8_goodOf_3 14 rfl rfl)
theorem dX8_goodOf_92 : decode cX8_goodOf 92 = .ok (.iload_n 1, 1) := dk_27 (dk_at dksX8_goodOf_3 16 rfl rfl)
theorem dX8_goodOf_93 : decode cX8_goodOf 93 = .ok (.iadd, 1) := dk_96 (dk_at dksX8_goodOf_3 17 rfl rfl)
theorem dX8_goodOf_94 : decode cX8_goodOf 94 = .ok (.iaload, 1) := dk_46 (dk_at dksX8_goodOf_3 18 rfl rfl)
theorem dX8_goodOf_95 : decode cX8_goodOf 95 = .ok (.ireturn, 1) := dk_172 (dk_at dksX8_goodOf_3 19 rfl rfl)
theorem dX8_goodOf_96 : decode cX8_goodOf 96 = .ok (.aload_n 0, 1) := dk_42 (dk_at dksX8_goodOf_3 20 rfl rfl)
theorem dX8_goodOf_97 : decode cX8_goodOf 97 = .ok (.iload_n 1, 1) := dk_27 (dk_at dksX8_goodOf_3 21 rfl rfl)
theorem dX8_goodOf_98 : decode cX8_goodOf 98 = .ok (.invokevirtual 107, 3) := dk_182 0 107 (dk_at dksX8_goodOf_4 0 rfl rfl)
theorem dX8_goodOf_101 : decode cX8_goodOf 101 = .ok (.ireturn, 1) := dk_172 (dk_at dksX8_goodOf_4 3 rfl rfl)
theorem dX8_goodOf_102 : decode cX8_goodOf 102 = .ok (.aload_n 0, 1) := dk_42 (dk_at dksX8_goodOf_4 4 rfl rfl)
theorem dX8_goodOf_103 : decode cX8_goodOf 103 = .ok (.iload_n 1, 1) := dk_27 (dk_at dksX8_goodOf_4 5 rfl rfl)
theorem dX8_goodOf_104 : decode cX8_goodOf 104 = .ok (.iconst 2, 1) := dk_5 (dk_at dksX8_goodOf_4 6 rfl rfl)
theorem dX8_goodOf_105 : decode cX8_goodOf 105 = .ok (.iconst 2, 1) := dk_5 (dk_at dksX8_goodOf_4 7 rfl rfl)
theorem dX8_goodOf_106 : decode cX8_goodOf 106 = .ok (.invokevirtual 116, 3) := dk_182 0 116 (dk_at dksX8_goodOf_4 8 rfl rfl)
theorem dX8_goodOf_109 : decode cX8_goodOf 109 = .ok (.ireturn, 1) := dk_172 (dk_at dksX8_goodOf_4 11 rfl rfl)
theorem dX8_goodOf_110 : decode cX8_goodOf 110 = .ok (.aload_n 0, 1) := dk_42 (dk_at dksX8_goodOf_4 12 rfl rfl)
theorem dX8_goodOf_111 : decode cX8_goodOf 111 = .ok (.iload_n 1, 1) := dk_27 (dk_at dksX8_goodOf_4 13 rfl rfl)
theorem dX8_goodOf_112 : decode cX8_goodOf 112 = .ok (.iconst 3, 1) := dk_6 (dk_at dksX8_goodOf_4 14 rfl rfl)
theorem dX8_goodOf_113 : decode cX8_goodOf 113 = .ok (.iconst 3, 1) := dk_6 (dk_at dksX8_goodOf_4 15 rfl rfl)
theorem dX8_goodOf_114 : decode cX8_goodOf 114 = .ok (.invokevirtual 116, 3) := dk_182 0 116 (dk_at dksX8_goodOf_4 16 rfl rfl)
theorem dX8_goodOf_117 : decode cX8_goodOf 117 = .ok (.ireturn, 1) := dk_172 (dk_at dksX8_goodOf_4 19 rfl rfl)
theorem dX8_goodOf_118 : decode cX8_goodOf 118 = .ok (.aload_n 0, 1) := dk_42 (dk_at dksX8_goodOf_4 20 rfl rfl)
theorem dX8_goodOf_119 : decode cX8_goodOf 119 = .ok (.iload_n 1, 1) := dk_27 (dk_at dksX8_goodOf_4 21 rfl rfl)
theorem dX8_goodOf_120 : decode cX8_goodOf 120 = .ok (.iconst 4, 1) := dk_7 (dk_at dksX8_goodOf_4 22 rfl rfl)
theorem dX8_goodOf_121 : decode cX8_goodOf 121 = .ok (.iconst 5, 1) := dk_8 (dk_at dksX8_goodOf_4 23 rfl rfl)
theorem dX8_goodOf_122 : decode cX8_goodOf 122 = .ok (.invokevirtual 116, 3) := dk_182 0 116 (dk_at dksX8_goodOf_5 0 rfl rfl)
theorem dX8_goodOf_125 : decode cX8_goodOf 125 = .ok (.ireturn, 1) := dk_172 (dk_at dksX8_goodOf_5 3 rfl rfl)
abbrev cX8_clausesWith : ByteArray := prog_15_method_16_code
def yX8_clausesWith : MethodName := ⟨RX8, "clausesWith", "(III)I"⟩
def dkwX8_clausesWith_2 : List UInt8 := [160, 0, 7, 4, 167, 0, 4, 3, 96, 54, 4, 132, 5, 1, 167, 255, 202, 21, 4, 172]
abbrev dktX8_clausesWith_2 : List UInt8 := dkwX8_clausesWith_2 ++ []
def dkwX8_clausesWith_1 : List UInt8 := [54, 6, 21, 4, 21, 6, 28, 159, 0, 9, 21, 6, 29, 160, 0, 17, 42, 21, 5, 182, 0, 113, 27]
abbrev dktX8_clausesWith_1 : List UInt8 := dkwX8_clausesWith_1 ++ dktX8_clausesWith_2
def dkwX8_clausesWith_0 : List UInt8 := [3, 54, 4, 3, 54, 5, 21, 5, 42, 180, 0, 9, 4, 46, 162, 0, 49, 42, 21, 5, 182, 0, 110]
abbrev dktX8_clausesWith_0 : List UInt8 := dkwX8_clausesWith_0 ++ dktX8_clausesWith_1
theorem dksX8_clausesWith_0 : cX8_clausesWith.data.toList.drop 0 = dktX8_clausesWith_0 := by decide +kernel
theorem dksX8_clausesWith_1 : cX8_clausesWith.data.toList.drop 23 = dktX8_clausesWith_1 := dk_seg dksX8_clausesWith_0 23 rfl rfl
theorem dksX8_clausesWith_2 : cX8_clausesWith.data.toList.drop 46 = dktX8_clausesWith_2 := dk_seg dksX8_clausesWith_1 23 rfl rfl
theorem dX8_clausesWith_0 : decode cX8_clausesWith 0 = .ok (.iconst 0, 1) := dk_3 (dk_at dksX8_clausesWith_0 0 rfl rfl)
theorem dX8_clausesWith_1 : decode cX8_clausesWith 1 = .ok (.istore 4, 2) := dk_54 4 (dk_at dksX8_clausesWith_0 1 rfl rfl)
theorem dX8_clausesWith_3 : decode cX8_clausesWith 3 = .ok (.iconst 0, 1) := dk_3 (dk_at dksX8_clausesWith_0 3 rfl rfl)
theorem dX8_clausesWith_4 : decode cX8_clausesWith 4 = .ok (.istore 5, 2) := dk_54 5 (dk_at dksX8_clausesWith_0 4 rfl rfl)
theorem dX8_clausesWith_6 : decode cX8_clausesWith 6 = .ok (.iload 5, 2) := dk_21 5 (dk_at dksX8_clausesWith_0 6 rfl rfl)
theorem dX8_clausesWith_8 : decode cX8_clausesWith 8 = .ok (.aload_n 0, 1) := dk_42 (dk_at dksX8_clausesWith_0 8 rfl rfl)
theorem dX8_clausesWith_9 : decode cX8_clausesWith 9 = .ok (.getfield 9, 3) := dk_180 0 9 (dk_at dksX8_clausesWith_0 9 rfl rfl)
theorem dX8_clausesWith_12 : decode cX8_clausesWith 12 = .ok (.iconst 1, 1) := dk_4 (dk_at dksX8_clausesWith_0 12 rfl rfl)
theorem dX8_clausesWith_13 : decode cX8_clausesWith 13 = .ok (.iaload, 1) := dk_46 (dk_at dksX8_clausesWith_0 13 rfl rfl)
theorem dX8_clausesWith_14 : decode cX8_clausesWith 14 = .ok (.if_icmp .ge 49, 3) := dk_162 0 49 (dk_at dksX8_clausesWith_0 14 rfl rfl)
theorem dX8_clausesWith_17 : decode cX8_clausesWith 17 = .ok (.aload_n 0, 1) := dk_42 (dk_at dksX8_clausesWith_0 17 rfl rfl)
theorem dX8_clausesWith_18 : decode cX8_clausesWith 18 = .ok (.iload 5, 2) := dk_21 5 (dk_at dksX8_clausesWith_0 18 rfl rfl)
theorem dX8_clausesWith_20 : decode cX8_clausesWith 20 = .ok (.invokevirtual 110, 3) := dk_182 0 110 (dk_at dksX8_clausesWith_0 20 rfl rfl)
theorem dX8_clausesWith_23 : decode cX8_clausesWith 23 = .ok (.istore 6, 2) := dk_54 6 (dk_at dksX8_clausesWith_1 0 rfl rfl)
theorem dX8_clausesWith_25 : decode cX8_clausesWith 25 = .ok (.iload 4, 2) := dk_21 4 (dk_at dksX8_clausesWith_1 2 rfl rfl)
theorem dX8_clausesWith_27 : decode cX8_clausesWith 27 = .ok (.iload 6, 2) := dk_21 6 (dk_at dksX8_clausesWith_1 4 rfl rfl)
theorem dX8_clausesWith_29 : decode cX8_clausesWith 29 = .ok (.iload_n 2, 1) := dk_28 (dk_at dksX8_clausesWith_1 6 rfl rfl)
theorem dX8_clausesWith_30 : decode cX8_clausesWith 30 = .ok (.if_icmp .eq 9, 3) := dk_159 0 9 (dk_at dksX8_clausesWith_1 7 rfl rfl)
theorem dX8_clausesWith_33 : decode cX8_clausesWith 33 = .ok (.iload 6, 2) := dk_21 6 (dk_at dksX8_clausesWith_1 10 rfl rfl)
theorem dX8_clausesWith_35 : decode cX8_clausesWith 35 = .ok (.iload_n 3, 1) := dk_29 (dk_at dksX8_clausesWith_1 12 rfl rfl)
theorem dX8_clausesWith_36 : decode cX8_clausesWith 36 = .ok (.if_icmp .ne 17, 3) := dk_160 0 17 (dk_at dksX8_clausesWith_1 13 rfl rfl)
theorem dX8_clausesWith_39 : decode cX8_clausesWith 39 = .ok (.aload_n 0, 1) := dk_42 (dk_at dksX8_clausesWith_1 16 rfl rfl)
theorem dX8_clausesWith_40 : decode cX8_clausesWith 40 = .ok (.iload 5, 2) := dk_21 5 (dk_at dksX8_clausesWith_1 17 rfl rfl)
theorem dX8_clausesWith_42 : decode cX8_clausesWith 42 = .ok (.invokevirtual 113, 3) := dk_182 0 113 (dk_at dksX8_clausesWith_1 19 rfl rfl)
theorem dX8_clausesWith_45 : decode cX8_clausesWith 45 = .ok (.iload_n 1, 1) := dk_27 (dk_at dksX8_clausesWith_1 22 rfl rfl)
theorem dX8_clausesWith_46 : decode cX8_clausesWith 46 = .ok (.if_icmp .ne 7, 3) := dk_160 0 7 (dk_at dksX8_clausesWith_2 0 rfl rfl)
theorem dX8_clausesWith_49 : decode cX8_clausesWith 49 = .ok (.iconst 1, 1) := dk_4 (dk_at dksX8_clausesWith_2 3 rfl rfl)
theorem dX8_clausesWith_50 : decode cX8_clausesWith 50 = .ok (.goto 4, 3) := dk_167 0 4 (dk_at dksX8_clausesWith_2 4 rfl rfl)
theorem dX8_clausesWith_53 : decode cX8_clausesWith 53 = .ok (.iconst 0, 1) := dk_3 (dk_at dksX8_clausesWith_2 7 rfl rfl)
theorem dX8_clausesWith_54 : decode cX8_clausesWith 54 = .ok (.iadd, 1) := dk_96 (dk_at dksX8_clausesWith_2 8 rfl rfl)
theorem dX8_clausesWith_55 : decode cX8_clausesWith 55 = .ok (.istore 4, 2) := dk_54 4 (dk_at dksX8_clausesWith_2 9 rfl rfl)
theorem dX8_clausesWith_57 : decode cX8_clausesWith 57 = .ok (.iinc 5 1, 3) := dk_132 5 1 (dk_at dksX8_clausesWith_2 11 rfl rfl)
theorem dX8_clausesWith_60 : decode cX8_clausesWith 60 = .ok (.goto (-54), 3) := dk_167 255 202 (dk_at dksX8_clausesWith_2 14 rfl rfl)
theorem dX8_clausesWith_63 : decode cX8_clausesWith 63 = .ok (.iload 4, 2) := dk_21 4 (dk_at dksX8_clausesWith_2 17 rfl rfl)
theorem dX8_clausesWith_65 : decode cX8_clausesWith 65 = .ok (.ireturn, 1) := dk_172 (dk_at dksX8_clausesWith_2 19 rfl rfl)
abbrev cX8_sort : ByteArray := prog_15_method_23_code
def yX8_sort : MethodName := ⟨RX8, "sort", "(I)I"⟩
def dkwX8_sort_0 : List UInt8 := [42, 180, 0, 9, 16, 37, 6, 27, 104, 96, 46, 172]
abbrev dktX8_sort_0 : List UInt8 := dkwX8_sort_0 ++ []
theorem dksX8_sort_0 : cX8_sort.data.toList.drop 0 = dktX8_sort_0 := by decide +kernel
theorem dX8_sort_0 : decode cX8_sort 0 = .ok (.aload_n 0, 1) := dk_42 (dk_at dksX8_sort_0 0 rfl rfl)
theorem dX8_sort_1 : decode cX8_sort 1 = .ok (.getfield 9, 3) := dk_180 0 9 (dk_at dksX8_sort_0 1 rfl rfl)
theorem dX8_sort_4 : decode cX8_sort 4 = .ok (.bipush 37, 2) := dk_16 37 (dk_at dksX8_sort_0 4 rfl rfl)
theorem dX8_sort_6 : decode cX8_sort 6 = .ok (.iconst 3, 1) := dk_6 (dk_at dksX8_sort_0 6 rfl rfl)
theorem dX8_sort_7 : decode cX8_sort 7 = .ok (.iload_n 1, 1) := dk_27 (dk_at dksX8_sort_0 7 rfl rfl)
theorem dX8_sort_8 : decode cX8_sort 8 = .ok (.imul, 1) := dk_104 (dk_at dksX8_sort_0 8 rfl rfl)
theorem dX8_sort_9 : decode cX8_sort 9 = .ok (.iadd, 1) := dk_96 (dk_at dksX8_sort_0 9 rfl rfl)
theorem dX8_sort_10 : decode cX8_sort 10 = .ok (.iaload, 1) := dk_46 (dk_at dksX8_sort_0 10 rfl rfl)
theorem dX8_sort_11 : decode cX8_sort 11 = .ok (.ireturn, 1) := dk_172 (dk_at dksX8_sort_0 11 rfl rfl)
abbrev cX8_goodIn : ByteArray := prog_15_method_25_code
def yX8_goodIn : MethodName := ⟨RX8, "goodIn", "(I)I"⟩
def dkwX8_goodIn_2 : List UInt8 := [167, 0, 4, 2, 172]
abbrev dktX8_goodIn_2 : List UInt8 := dkwX8_goodIn_2 ++ []
def dkwX8_goodIn_1 : List UInt8 := [28, 7, 159, 0, 8, 28, 8, 160, 0, 19, 42, 180, 0, 9, 16, 37, 6, 27, 104, 96, 5, 96, 46]
abbrev dktX8_goodIn_1 : List UInt8 := dkwX8_goodIn_1 ++ dktX8_goodIn_2
def dkwX8_goodIn_0 : List UInt8 := [42, 27, 182, 0, 110, 61, 28, 5, 159, 0, 8, 28, 6, 160, 0, 11, 42, 27, 182, 0, 133, 167, 0, 30]
abbrev dktX8_goodIn_0 : List UInt8 := dkwX8_goodIn_0 ++ dktX8_goodIn_1
theorem dksX8_goodIn_0 : cX8_goodIn.data.toList.drop 0 = dktX8_goodIn_0 := by decide +kernel
theorem dksX8_goodIn_1 : cX8_goodIn.data.toList.drop 24 = dktX8_goodIn_1 := dk_seg dksX8_goodIn_0 24 rfl rfl
theorem dksX8_goodIn_2 : cX8_goodIn.data.toList.drop 47 = dktX8_goodIn_2 := dk_seg dksX8_goodIn_1 23 rfl rfl
theorem dX8_goodIn_0 : decode cX8_goodIn 0 = .ok (.aload_n 0, 1) := dk_42 (dk_at dksX8_goodIn_0 0 rfl rfl)
theorem dX8_goodIn_1 : decode cX8_goodIn 1 = .ok (.iload_n 1, 1) := dk_27 (dk_at dksX8_goodIn_0 1 rfl rfl)
theorem dX8_goodIn_2 : decode cX8_goodIn 2 = .ok (.invokevirtual 110, 3) := dk_182 0 110 (dk_at dksX8_goodIn_0 2 rfl rfl)
theorem dX8_goodIn_5 : decode cX8_goodIn 5 = .ok (.istore_n 2, 1) := dk_61 (dk_at dksX8_goodIn_0 5 rfl rfl)
theorem dX8_goodIn_6 : decode cX8_goodIn 6 = .ok (.iload_n 2, 1) := dk_28 (dk_at dksX8_goodIn_0 6 rfl rfl)
theorem dX8_goodIn_7 : decode cX8_goodIn 7 = .ok (.iconst 2, 1) := dk_5 (dk_at dksX8_goodIn_0 7 rfl rfl)
theorem dX8_goodIn_8 : decode cX8_goodIn 8 = .ok (.if_icmp .eq 8, 3) := dk_159 0 8 (dk_at dksX8_goodIn_0 8 rfl rfl)
theorem dX8_goodIn_11 : decode cX8_goodIn 11 = .ok (.iload_n 2, 1) := dk_28 (dk_at dksX8_goodIn_0 11 rfl rfl)
theorem dX8_goodIn_12 : decode cX8_goodIn 12 = .ok (.iconst 3, 1) := dk_6 (dk_at dksX8_goodIn_0 12 rfl rfl)
theorem dX8_goodIn_13 : decode cX8_goodIn 13 = .ok (.if_icmp .ne 11, 3) := dk_160 0 11 (dk_at dksX8_goodIn_0 13 rfl rfl)
theorem dX8_goodIn_16 : decode cX8_goodIn 16 = .ok (.aload_n 0, 1) := dk_42 (dk_at dksX8_goodIn_0 16 rfl rfl)
theorem dX8_goodIn_17 : decode cX8_goodIn 17 = .ok (.iload_n 1, 1) := dk_27 (dk_at dksX8_goodIn_0 17 rfl rfl)
theorem dX8_goodIn_18 : decode cX8_goodIn 18 = .ok (.invokevirtual 133, 3) := dk_182 0 133 (dk_at dksX8_goodIn_0 18 rfl rfl)
theorem dX8_goodIn_21 : decode cX8_goodIn 21 = .ok (.goto 30, 3) := dk_167 0 30 (dk_at dksX8_goodIn_0 21 rfl rfl)
theorem dX8_goodIn_24 : decode cX8_goodIn 24 = .ok (.iload_n 2, 1) := dk_28 (dk_at dksX8_goodIn_1 0 rfl rfl)
theorem dX8_goodIn_25 : decode cX8_goodIn 25 = .ok (.iconst 4, 1) := dk_7 (dk_at dksX8_goodIn_1 1 rfl rfl)
theorem dX8_goodIn_26 : decode cX8_goodIn 26 = .ok (.if_icmp .eq 8, 3) := dk_159 0 8 (dk_at dksX8_goodIn_1 2 rfl rfl)
theorem dX8_goodIn_29 : decode cX8_goodIn 29 = .ok (.iload_n 2, 1) := dk_28 (dk_at dksX8_goodIn_1 5 rfl rfl)
theorem dX8_goodIn_30 : decode cX8_goodIn 30 = .ok (.iconst 5, 1) := dk_8 (dk_at dksX8_goodIn_1 6 rfl rfl)
theorem dX8_goodIn_31 : decode cX8_goodIn 31 = .ok (.if_icmp .ne 19, 3) := dk_160 0 19 (dk_at dksX8_goodIn_1 7 rfl rfl)
theorem dX8_goodIn_34 : decode cX8_goodIn 34 = .ok (.aload_n 0, 1) := dk_42 (dk_at dksX8_goodIn_1 10 rfl rfl)
theorem dX8_goodIn_35 : decode cX8_goodIn 35 = .ok (.getfield 9, 3) := dk_180 0 9 (dk_at dksX8_goodIn_1 11 rfl rfl)
theorem dX8_goodIn_38 : decode cX8_goodIn 38 = .ok (.bipush 37, 2) := dk_16 37 (dk_at dksX8_goodIn_1 14 rfl rfl)
theorem dX8_goodIn_40 : decode cX8_goodIn 40 = .ok (.iconst 3, 1) := dk_6 (dk_at dksX8_goodIn_1 16 rfl rfl)
theorem dX8_goodIn_41 : decode cX8_goodIn 41 = .ok (.iload_n 1, 1) := dk_27 (dk_at dksX8_goodIn_1 17 rfl rfl)
theorem dX8_goodIn_42 : decode cX8_goodIn 42 = .ok (.imul, 1) := dk_104 (dk_at dksX8_goodIn_1 18 rfl rfl)
theorem dX8_goodIn_43 : decode cX8_goodIn 43 = .ok (.iadd, 1) := dk_96 (dk_at dksX8_goodIn_1 19 rfl rfl)
theorem dX8_goodIn_44 : decode cX8_goodIn 44 = .ok (.iconst 2, 1) := dk_5 (dk_at dksX8_goodIn_1 20 rfl rfl)
theorem dX8_goodIn_45 : decode cX8_goodIn 45 = .ok (.iadd, 1) := dk_96 (dk_at dksX8_goodIn_1 21 rfl rfl)
theorem dX8_goodIn_46 : decode cX8_goodIn 46 = .ok (.iaload, 1) := dk_46 (dk_at dksX8_goodIn_1 22 rfl rfl)
theorem dX8_goodIn_47 : decode cX8_goodIn 47 = .ok (.goto 4, 3) := dk_167 0 4 (dk_at dksX8_goodIn_2 0 rfl rfl)
theorem dX8_goodIn_50 : decode cX8_goodIn 50 = .ok (.iconst (-1), 1) := dk_2 (dk_at dksX8_goodIn_2 3 rfl rfl)
theorem dX8_goodIn_51 : decode cX8_goodIn 51 = .ok (.ireturn, 1) := dk_172 (dk_at dksX8_goodIn_2 4 rfl rfl)
abbrev cX8_one : ByteArray := prog_15_method_24_code
def yX8_one : MethodName := ⟨RX8, "one", "(I)I"⟩
def dkwX8_one_0 : List UInt8 := [42, 180, 0, 9, 16, 37, 6, 27, 104, 96, 4, 96, 46, 172]
abbrev dktX8_one_0 : List UInt8 := dkwX8_one_0 ++ []
theorem dksX8_one_0 : cX8_one.data.toList.drop 0 = dktX8_one_0 := by decide +kernel
theorem dX8_one_0 : decode cX8_one 0 = .ok (.aload_n 0, 1) := dk_42 (dk_at dksX8_one_0 0 rfl rfl)
theorem dX8_one_1 : decode cX8_one 1 = .ok (.getfield 9, 3) := dk_180 0 9 (dk_at dksX8_one_0 1 rfl rfl)
theorem dX8_one_4 : decode cX8_one 4 = .ok (.bipush 37, 2) := dk_16 37 (dk_at dksX8_one_0 4 rfl rfl)
theorem dX8_one_6 : decode cX8_one 6 = .ok (.iconst 3, 1) := dk_6 (dk_at dksX8_one_0 6 rfl rfl)
theorem dX8_one_7 : decode cX8_one 7 = .ok (.iload_n 1, 1) := dk_27 (dk_at dksX8_one_0 7 rfl rfl)
theorem dX8_one_8 : decode cX8_one 8 = .ok (.imul, 1) := dk_104 (dk_at dksX8_one_0 8 rfl rfl)
theorem dX8_one_9 : decode cX8_one 9 = .ok (.iadd, 1) := dk_96 (dk_at dksX8_one_0 9 rfl rfl)
theorem dX8_one_10 : decode cX8_one 10 = .ok (.iconst 1, 1) := dk_4 (dk_at dksX8_one_0 10 rfl rfl)
theorem dX8_one_11 : decode cX8_one 11 = .ok (.iadd, 1) := dk_96 (dk_at dksX8_one_0 11 rfl rfl)
theorem dX8_one_12 : decode cX8_one 12 = .ok (.iaload, 1) := dk_46 (dk_at dksX8_one_0 12 rfl rfl)
theorem dX8_one_13 : decode cX8_one 13 = .ok (.ireturn, 1) := dk_172 (dk_at dksX8_one_0 13 rfl rfl)
abbrev cX8_chestAt : ByteArray := prog_15_method_18_code
def yX8_chestAt : MethodName := ⟨RX8, "chestAt", "(II)I"⟩
def dkwX8_chestAt_2 : List UInt8 := [167, 0, 16, 42, 180, 0, 9, 16, 9, 7, 27, 104, 96, 28, 96, 46, 172]
abbrev dktX8_chestAt_2 : List UInt8 := dkwX8_chestAt_2 ++ []
def dkwX8_chestAt_1 : List UInt8 := [100, 184, 0, 82, 154, 0, 7, 5, 167, 0, 4, 3, 181, 0, 64, 42, 180, 0, 64, 158, 0, 7, 3]
abbrev dktX8_chestAt_1 : List UInt8 := dkwX8_chestAt_1 ++ dktX8_chestAt_2
def dkwX8_chestAt_0 : List UInt8 := [42, 27, 184, 0, 104, 154, 0, 7, 4, 167, 0, 27, 28, 3, 42, 180, 0, 9, 16, 6, 27, 96, 46, 4]
abbrev dktX8_chestAt_0 : List UInt8 := dkwX8_chestAt_0 ++ dktX8_chestAt_1
theorem dksX8_chestAt_0 : cX8_chestAt.data.toList.drop 0 = dktX8_chestAt_0 := by decide +kernel
theorem dksX8_chestAt_1 : cX8_chestAt.data.toList.drop 24 = dktX8_chestAt_1 := dk_seg dksX8_chestAt_0 24 rfl rfl
theorem dksX8_chestAt_2 : cX8_chestAt.data.toList.drop 47 = dktX8_chestAt_2 := dk_seg dksX8_chestAt_1 23 rfl rfl
theorem dX8_chestAt_0 : decode cX8_chestAt 0 = .ok (.aload_n 0, 1) := dk_42 (dk_at dksX8_chestAt_0 0 rfl rfl)
theorem dX8_chestAt_1 : decode cX8_chestAt 1 = .ok (.iload_n 1, 1) := dk_27 (dk_at dksX8_chestAt_0 1 rfl rfl)
theorem dX8_chestAt_2 : decode cX8_chestAt 2 = .ok (.invokestatic 104, 3) := dk_184 0 104 (dk_at dksX8_chestAt_0 2 rfl rfl)
theorem dX8_chestAt_5 : decode cX8_chestAt 5 = .ok (.ifCond .ne 7, 3) := dk_154 0 7 (dk_at dksX8_chestAt_0 5 rfl rfl)
theorem dX8_chestAt_8 : decode cX8_chestAt 8 = .ok (.iconst 1, 1) := dk_4 (dk_at dksX8_chestAt_0 8 rfl rfl)
theorem dX8_chestAt_9 : decode cX8_chestAt 9 = .ok (.goto 27, 3) := dk_167 0 27 (dk_at dksX8_chestAt_0 9 rfl rfl)
theorem dX8_chestAt_12 : decode cX8_chestAt 12 = .ok (.iload_n 2, 1) := dk_28 (dk_at dksX8_chestAt_0 12 rfl rfl)
theorem dX8_chestAt_13 : decode cX8_chestAt 13 = .ok (.iconst 0, 1) := dk_3 (dk_at dksX8_chestAt_0 13 rfl rfl)
theorem dX8_chestAt_14 : decode cX8_chestAt 14 = .ok (.aload_n 0, 1) := dk_42 (dk_at dksX8_chestAt_0 14 rfl rfl)
theorem dX8_chestAt_15 : decode cX8_chestAt 15 = .ok (.getfield 9, 3) := dk_180 0 9 (dk_at dksX8_chestAt_0 15 rfl rfl)
theorem dX8_chestAt_18 : decode cX8_chestAt 18 = .ok (.bipush 6, 2) := dk_16 6 (dk_at dksX8_chestAt_0 18 rfl rfl)
theorem dX8_chestAt_20 : decode cX8_chestAt 20 = .ok (.iload_n 1, 1) := dk_27 (dk_at dksX8_chestAt_0 20 rfl rfl)
theorem dX8_chestAt_21 : decode cX8_chestAt 21 = .ok (.iadd, 1) := dk_96 (dk_at dksX8_chestAt_0 21 rfl rfl)
theorem dX8_chestAt_22 : decode cX8_chestAt 22 = .ok (.iaload, 1) := dk_46 (dk_at dksX8_chestAt_0 22 rfl rfl)
theorem dX8_chestAt_23 : decode cX8_chestAt 23 = .ok (.iconst 1, 1) := dk_4 (dk_at dksX8_chestAt_0 23 rfl rfl)
theorem dX8_chestAt_24 : decode cX8_chestAt 24 = .ok (.isub, 1) := dk_100 (dk_at dksX8_chestAt_1 0 rfl rfl)
theorem dX8_chestAt_25 : decode cX8_chestAt 25 = .ok (.invokestatic 82, 3) := dk_184 0 82 (dk_at dksX8_chestAt_1 1 rfl rfl)
theorem dX8_chestAt_28 : decode cX8_chestAt 28 = .ok (.ifCond .ne 7, 3) := dk_154 0 7 (dk_at dksX8_chestAt_1 4 rfl rfl)
theorem dX8_chestAt_31 : decode cX8_chestAt 31 = .ok (.iconst 2, 1) := dk_5 (dk_at dksX8_chestAt_1 7 rfl rfl)
theorem dX8_chestAt_32 : decode cX8_chestAt 32 = .ok (.goto 4, 3) := dk_167 0 4 (dk_at dksX8_chestAt_1 8 rfl rfl)
theorem dX8_chestAt_35 : decode cX8_chestAt 35 = .ok (.iconst 0, 1) := dk_3 (dk_at dksX8_chestAt_1 11 rfl rfl)
theorem dX8_chestAt_36 : decode cX8_chestAt 36 = .ok (.putfield 64, 3) := dk_181 0 64 (dk_at dksX8_chestAt_1 12 rfl rfl)
theorem dX8_chestAt_39 : decode cX8_chestAt 39 = .ok (.aload_n 0, 1) := dk_42 (dk_at dksX8_chestAt_1 15 rfl rfl)
theorem dX8_chestAt_40 : decode cX8_chestAt 40 = .ok (.getfield 64, 3) := dk_180 0 64 (dk_at dksX8_chestAt_1 16 rfl rfl)
theorem dX8_chestAt_43 : decode cX8_chestAt 43 = .ok (.ifCond .le 7, 3) := dk_158 0 7 (dk_at dksX8_chestAt_1 19 rfl rfl)
theorem dX8_chestAt_46 : decode cX8_chestAt 46 = .ok (.iconst 0, 1) := dk_3 (dk_at dksX8_chestAt_1 22 rfl rfl)
theorem dX8_chestAt_47 : decode cX8_chestAt 47 = .ok (.goto 16, 3) := dk_167 0 16 (dk_at dksX8_chestAt_2 0 rfl rfl)
theorem dX8_chestAt_50 : decode cX8_chestAt 50 = .ok (.aload_n 0, 1) := dk_42 (dk_at dksX8_chestAt_2 3 rfl rfl)
theorem dX8_chestAt_51 : decode cX8_chestAt 51 = .ok (.getfield 9, 3) := dk_180 0 9 (dk_at dksX8_chestAt_2 4 rfl rfl)
theorem dX8_chestAt_54 : decode cX8_chestAt 54 = .ok (.bipush 9, 2) := dk_16 9 (dk_at dksX8_chestAt_2 7 rfl rfl)
theorem dX8_chestAt_56 : decode cX8_chestAt 56 = .ok (.iconst 4, 1) := dk_7 (dk_at dksX8_chestAt_2 9 rfl rfl)
theorem dX8_chestAt_57 : decode cX8_chestAt 57 = .ok (.iload_n 1, 1) := dk_27 (dk_at dksX8_chestAt_2 10 rfl rfl)
theorem dX8_chestAt_58 : decode cX8_chestAt 58 = .ok (.imul, 1) := dk_104 (dk_at dksX8_chestAt_2 11 rfl rfl)
theorem dX8_chestAt_59 : decode cX8_chestAt 59 = .ok (.iadd, 1) := dk_96 (dk_at dksX8_chestAt_2 12 rfl rfl)
theorem dX8_chestAt_60 : decode cX8_chestAt 60 = .ok (.iload_n 2, 1) := dk_28 (dk_at dksX8_chestAt_2 13 rfl rfl)
theorem dX8_chestAt_61 : decode cX8_chestAt 61 = .ok (.iadd, 1) := dk_96 (dk_at dksX8_chestAt_2 14 rfl rfl)
theorem dX8_chestAt_62 : decode cX8_chestAt 62 = .ok (.iaload, 1) := dk_46 (dk_at dksX8_chestAt_2 15 rfl rfl)
theorem dX8_chestAt_63 : decode cX8_chestAt 63 = .ok (.ireturn, 1) := dk_172 (dk_at dksX8_chestAt_2 16 rfl rfl)
abbrev cX8_tithe : ByteArray := prog_15_method_21_code
def yX8_tithe : MethodName := ⟨RX8, "tithe", "(I)F"⟩
def dkwX8_tithe_1 : List UInt8 := [11, 167, 0, 8, 42, 27, 182, 0, 124, 174]
abbrev dktX8_tithe_1 : List UInt8 := dkwX8_tithe_1 ++ []
def dkwX8_tithe_0 : List UInt8 := [42, 42, 27, 182, 0, 100, 153, 0, 7, 3, 167, 0, 4, 4, 181, 0, 64, 42, 180, 0, 64, 158, 0, 7]
abbrev dktX8_tithe_0 : List UInt8 := dkwX8_tithe_0 ++ dktX8_tithe_1
theorem dksX8_tithe_0 : cX8_tithe.data.toList.drop 0 = dktX8_tithe_0 := by decide +kernel
theorem dksX8_tithe_1 : cX8_tithe.data.toList.drop 24 = dktX8_tithe_1 := dk_seg dksX8_tithe_0 24 rfl rfl
theorem dX8_tithe_0 : decode cX8_tithe 0 = .ok (.aload_n 0, 1) := dk_42 (dk_at dksX8_tithe_0 0 rfl rfl)
theorem dX8_tithe_1 : decode cX8_tithe 1 = .ok (.aload_n 0, 1) := dk_42 (dk_at dksX8_tithe_0 1 rfl rfl)
theorem dX8_tithe_2 : decode cX8_tithe 2 = .ok (.iload_n 1, 1) := dk_27 (dk_at dksX8_tithe_0 2 rfl rfl)
theorem dX8_tithe_3 : decode cX8_tithe 3 = .ok (.invokevirtual 100, 3) := dk_182 0 100 (dk_at dksX8_tithe_0 3 rfl rfl)
theorem dX8_tithe_6 : decode cX8_tithe 6 = .ok (.ifCond .eq 7, 3) := dk_153 0 7 (dk_at dksX8_tithe_0 6 rfl rfl)
theorem dX8_tithe_9 : decode cX8_tithe 9 = .ok (.iconst 0, 1) := dk_3 (dk_at dksX8_tithe_0 9 rfl rfl)
theorem dX8_tithe_10 : decode cX8_tithe 10 = .ok (.goto 4, 3) := dk_167 0 4 (dk_at dksX8_tithe_0 10 rfl rfl)
theorem dX8_tithe_13 : decode cX8_tithe 13 = .ok (.iconst 1, 1) := dk_4 (dk_at dksX8_tithe_0 13 rfl rfl)
theorem dX8_tithe_14 : decode cX8_tithe 14 = .ok (.putfield 64, 3) := dk_181 0 64 (dk_at dksX8_tithe_0 14 rfl rfl)
theorem dX8_tithe_17 : decode cX8_tithe 17 = .ok (.aload_n 0, 1) := dk_42 (dk_at dksX8_tithe_0 17 rfl rfl)
theorem dX8_tithe_18 : decode cX8_tithe 18 = .ok (.getfield 64, 3) := dk_180 0 64 (dk_at dksX8_tithe_0 18 rfl rfl)
theorem dX8_tithe_21 : decode cX8_tithe 21 = .ok (.ifCond .le 7, 3) := dk_158 0 7 (dk_at dksX8_tithe_0 21 rfl rfl)
theorem dX8_tithe_24 : decode cX8_tithe 24 = .ok (.fconst 0, 1) := dk_11 (dk_at dksX8_tithe_1 0 rfl rfl)
theorem dX8_tithe_25 : decode cX8_tithe 25 = .ok (.goto 8, 3) := dk_167 0 8 (dk_at dksX8_tithe_1 1 rfl rfl)
theorem dX8_tithe_28 : decode cX8_tithe 28 = .ok (.aload_n 0, 1) := dk_42 (dk_at dksX8_tithe_1 4 rfl rfl)
theorem dX8_tithe_29 : decode cX8_tithe 29 = .ok (.iload_n 1, 1) := dk_27 (dk_at dksX8_tithe_1 5 rfl rfl)
theorem dX8_tithe_30 : decode cX8_tithe 30 = .ok (.invokevirtual 124, 3) := dk_182 0 124 (dk_at dksX8_tithe_1 6 rfl rfl)
theorem dX8_tithe_33 : decode cX8_tithe 33 = .ok (.freturn, 1) := dk_174 (dk_at dksX8_tithe_1 9 rfl rfl)
abbrev cX8_titheOf : ByteArray := prog_15_method_20_code
def yX8_titheOf : MethodName := ⟨RX8, "titheOf", "(I)F"⟩
def dkwX8_titheOf_1 : List UInt8 := [180, 0, 9, 16, 21, 27, 96, 46, 182, 0, 120, 106, 174]
abbrev dktX8_titheOf_1 : List UInt8 := dkwX8_titheOf_1 ++ []
def dkwX8_titheOf_0 : List UInt8 := [42, 27, 182, 0, 107, 156, 0, 7, 11, 167, 0, 27, 42, 180, 0, 9, 16, 29, 27, 96, 46, 134, 42, 42]
abbrev dktX8_titheOf_0 : List UInt8 := dkwX8_titheOf_0 ++ dktX8_titheOf_1
theorem dksX8_titheOf_0 : cX8_titheOf.data.toList.drop 0 = dktX8_titheOf_0 := by decide +kernel
theorem dksX8_titheOf_1 : cX8_titheOf.data.toList.drop 24 = dktX8_titheOf_1 := dk_seg dksX8_titheOf_0 24 rfl rfl
theorem dX8_titheOf_0 : decode cX8_titheOf 0 = .ok (.aload_n 0, 1) := dk_42 (dk_at dksX8_titheOf_0 0 rfl rfl)
theorem dX8_titheOf_1 : decode cX8_titheOf 1 = .ok (.iload_n 1, 1) := dk_27 (dk_at dksX8_titheOf_0 1 rfl rfl)
theorem dX8_titheOf_2 : decode cX8_titheOf 2 = .ok (.invokevirtual 107, 3) := dk_182 0 107 (dk_at dksX8_titheOf_0 2 rfl rfl)
theorem dX8_titheOf_5 : decode cX8_titheOf 5 = .ok (.ifCond .ge 7, 3) := dk_156 0 7 (dk_at dksX8_titheOf_0 5 rfl rfl)
theorem dX8_titheOf_8 : decode cX8_titheOf 8 = .ok (.fconst 0, 1) := dk_11 (dk_at dksX8_titheOf_0 8 rfl rfl)
theorem dX8_titheOf_9 : decode cX8_titheOf 9 = .ok (.goto 27, 3) := dk_167 0 27 (dk_at dksX8_titheOf_0 9 rfl rfl)
theorem dX8_titheOf_12 : decode cX8_titheOf 12 = .ok (.aload_n 0, 1) := dk_42 (dk_at dksX8_titheOf_0 12 rfl rfl)
theorem dX8_titheOf_13 : decode cX8_titheOf 13 = .ok (.getfield 9, 3) := dk_180 0 9 (dk_at dksX8_titheOf_0 13 rfl rfl)
theorem dX8_titheOf_16 : decode cX8_titheOf 16 = .ok (.bipush 29, 2) := dk_16 29 (dk_at dksX8_titheOf_0 16 rfl rfl)
theorem dX8_titheOf_18 : decode cX8_titheOf 18 = .ok (.iload_n 1, 1) := dk_27 (dk_at dksX8_titheOf_0 18 rfl rfl)
theorem dX8_titheOf_19 : decode cX8_titheOf 19 = .ok (.iadd, 1) := dk_96 (dk_at dksX8_titheOf_0 19 rfl rfl)
theorem dX8_titheOf_20 : decode cX8_titheOf 20 = .ok (.iaload, 1) := dk_46 (dk_at dksX8_titheOf_0 20 rfl rfl)
theorem dX8_titheOf_21 : decode cX8_titheOf 21 = .ok (.i2f, 1) := dk_134 (dk_at dksX8_titheOf_0 21 rfl rfl)
theorem dX8_titheOf_22 : decode cX8_titheOf 22 = .ok (.aload_n 0, 1) := dk_42 (dk_at dksX8_titheOf_0 22 rfl rfl)
theorem dX8_titheOf_23 : decode cX8_titheOf 23 = .ok (.aload_n 0, 1) := dk_42 (dk_at dksX8_titheOf_0 23 rfl rfl)
theorem dX8_titheOf_24 : decode cX8_titheOf 24 = .ok (.getfield 9, 3) := dk_180 0 9 (dk_at dksX8_titheOf_1 0 rfl rfl)
theorem dX8_titheOf_27 : decode cX8_titheOf 27 = .ok (.bipush 21, 2) := dk_16 21 (dk_at dksX8_titheOf_1 3 rfl rfl)
theorem dX8_titheOf_29 : decode cX8_titheOf 29 = .ok (.iload_n 1, 1) := dk_27 (dk_at dksX8_titheOf_1 5 rfl rfl)
theorem dX8_titheOf_30 : decode cX8_titheOf 30 = .ok (.iadd, 1) := dk_96 (dk_at dksX8_titheOf_1 6 rfl rfl)
theorem dX8_titheOf_31 : decode cX8_titheOf 31 = .ok (.iaload, 1) := dk_46 (dk_at dksX8_titheOf_1 7 rfl rfl)
theorem dX8_titheOf_32 : decode cX8_titheOf 32 = .ok (.invokevirtual 120, 3) := dk_182 0 120 (dk_at dksX8_titheOf_1 8 rfl rfl)
theorem dX8_titheOf_35 : decode cX8_titheOf 35 = .ok (.fmul, 1) := dk_106 (dk_at dksX8_titheOf_1 11 rfl rfl)
theorem dX8_titheOf_36 : decode cX8_titheOf 36 = .ok (.freturn, 1) := dk_174 (dk_at dksX8_titheOf_1 12 rfl rfl)
abbrev cX8_rateOf : ByteArray := prog_15_method_19_code
def yX8_rateOf : MethodName := ⟨RX8, "rateOf", "(I)F"⟩
def dkwX8_rateOf_0 : List UInt8 := [42, 180, 0, 9, 6, 27, 96, 46, 134, 18, 119, 110, 174]
abbrev dktX8_rateOf_0 : List UInt8 := dkwX8_rateOf_0 ++ []
theorem dksX8_rateOf_0 : cX8_rateOf.data.toList.drop 0 = dktX8_rateOf_0 := by decide +kernel
theorem dX8_rateOf_0 : decode cX8_rateOf 0 = .ok (.aload_n 0, 1) := dk_42 (dk_at dksX8_rateOf_0 0 rfl rfl)
theorem dX8_rateOf_1 : decode cX8_rateOf 1 = .ok (.getfield 9, 3) := dk_180 0 9 (dk_at dksX8_rateOf_0 1 rfl rfl)
theorem dX8_rateOf_4 : decode cX8_rateOf 4 = .ok (.iconst 3, 1) := dk_6 (dk_at dksX8_rateOf_0 4 rfl rfl)
theorem dX8_rateOf_5 : decode cX8_rateOf 5 = .ok (.iload_n 1, 1) := dk_27 (dk_at dksX8_rateOf_0 5 rfl rfl)
theorem dX8_rateOf_6 : decode cX8_rateOf 6 = .ok (.iadd, 1) := dk_96 (dk_at dksX8_rateOf_0 6 rfl rfl)
theorem dX8_rateOf_7 : decode cX8_rateOf 7 = .ok (.iaload, 1) := dk_46 (dk_at dksX8_rateOf_0 7 rfl rfl)
theorem dX8_rateOf_8 : decode cX8_rateOf 8 = .ok (.i2f, 1) := dk_134 (dk_at dksX8_rateOf_0 8 rfl rfl)
theorem dX8_rateOf_9 : decode cX8_rateOf 9 = .ok (.ldc 119, 2) := dk_18 119 (dk_at dksX8_rateOf_0 9 rfl rfl)
theorem dX8_rateOf_11 : decode cX8_rateOf 11 = .ok (.fdiv, 1) := dk_110 (dk_at dksX8_rateOf_0 11 rfl rfl)
theorem dX8_rateOf_12 : decode cX8_rateOf 12 = .ok (.freturn, 1) := dk_174 (dk_at dksX8_rateOf_0 12 rfl rfl)
abbrev cX8_rateBits : ByteArray := prog_15_method_22_code
def yX8_rateBits : MethodName := ⟨RX8, "rateBits", "(I)I"⟩
def dkwX8_rateBits_1 : List UInt8 := [167, 0, 11, 42, 27, 182, 0, 120, 184, 0, 127, 172]
abbrev dktX8_rateBits_1 : List UInt8 := dkwX8_rateBits_1 ++ []
def dkwX8_rateBits_0 : List UInt8 := [42, 27, 184, 0, 104, 153, 0, 7, 3, 167, 0, 4, 4, 181, 0, 64, 42, 180, 0, 64, 158, 0, 7, 3]
abbrev dktX8_rateBits_0 : List UInt8 := dkwX8_rateBits_0 ++ dktX8_rateBits_1
theorem dksX8_rateBits_0 : cX8_rateBits.data.toList.drop 0 = dktX8_rateBits_0 := by decide +kernel
theorem dksX8_rateBits_1 : cX8_rateBits.data.toList.drop 24 = dktX8_rateBits_1 := dk_seg dksX8_rateBits_0 24 rfl rfl
theorem dX8_rateBits_0 : decode cX8_rateBits 0 = .ok (.aload_n 0, 1) := dk_42 (dk_at dksX8_rateBits_0 0 rfl rfl)
theorem dX8_rateBits_1 : decode cX8_rateBits 1 = .ok (.iload_n 1, 1) := dk_27 (dk_at dksX8_rateBits_0 1 rfl rfl)
theorem dX8_rateBits_2 : decode cX8_rateBits 2 = .ok (.invokestatic 104, 3) := dk_184 0 104 (dk_at dksX8_rateBits_0 2 rfl rfl)
theorem dX8_rateBits_5 : decode cX8_rateBits 5 = .ok (.ifCond .eq 7, 3) := dk_153 0 7 (dk_at dksX8_rateBits_0 5 rfl rfl)
theorem dX8_rateBits_8 : decode cX8_rateBits 8 = .ok (.iconst 0, 1) := dk_3 (dk_at dksX8_rateBits_0 8 rfl rfl)
theorem dX8_rateBits_9 : decode cX8_rateBits 9 = .ok (.goto 4, 3) := dk_167 0 4 (dk_at dksX8_rateBits_0 9 rfl rfl)
theorem dX8_rateBits_12 : decode cX8_rateBits 12 = .ok (.iconst 1, 1) := dk_4 (dk_at dksX8_rateBits_0 12 rfl rfl)
theorem dX8_rateBits_13 : decode cX8_rateBits 13 = .ok (.putfield 64, 3) := dk_181 0 64 (dk_at dksX8_rateBits_0 13 rfl rfl)
theorem dX8_rateBits_16 : decode cX8_rateBits 16 = .ok (.aload_n 0, 1) := dk_42 (dk_at dksX8_rateBits_0 16 rfl rfl)
theorem dX8_rateBits_17 : decode cX8_rateBits 17 = .ok (.getfield 64, 3) := dk_180 0 64 (dk_at dksX8_rateBits_0 17 rfl rfl)
theorem dX8_rateBits_20 : decode cX8_rateBits 20 = .ok (.ifCond .le 7, 3) := dk_158 0 7 (dk_at dksX8_rateBits_0 20 rfl rfl)
theorem dX8_rateBits_23 : decode cX8_rateBits 23 = .ok (.iconst 0, 1) := dk_3 (dk_at dksX8_rateBits_0 23 rfl rfl)
theorem dX8_rateBits_24 : decode cX8_rateBits 24 = .ok (.goto 11, 3) := dk_167 0 11 (dk_at dksX8_rateBits_1 0 rfl rfl)
theorem dX8_rateBits_27 : decode cX8_rateBits 27 = .ok (.aload_n 0, 1) := dk_42 (dk_at dksX8_rateBits_1 3 rfl rfl)
theorem dX8_rateBits_28 : decode cX8_rateBits 28 = .ok (.iload_n 1, 1) := dk_27 (dk_at dksX8_rateBits_1 4 rfl rfl)
theorem dX8_rateBits_29 : decode cX8_rateBits 29 = .ok (.invokevirtual 120, 3) := dk_182 0 120 (dk_at dksX8_rateBits_1 5 rfl rfl)
theorem dX8_rateBits_32 : decode cX8_rateBits 32 = .ok (.invokestatic 127, 3) := dk_184 0 127 (dk_at dksX8_rateBits_1 8 rfl rfl)
theorem dX8_rateBits_35 : decode cX8_rateBits 35 = .ok (.ireturn, 1) := dk_172 (dk_at dksX8_rateBits_1 11 rfl rfl)
abbrev cX8_add : ByteArray := prog_15_method_32_code
def yX8_add : MethodName := ⟨RX8, "add", "(III)I"⟩
def dkwX8_add_0 : List UInt8 := [42, 182, 0, 86, 42, 42, 42, 180, 0, 9, 4, 46, 27, 28, 29, 4, 182, 0, 153, 182, 0, 93, 172]
abbrev dktX8_add_0 : List UInt8 := dkwX8_add_0 ++ []
theorem dksX8_add_0 : cX8_add.data.toList.drop 0 = dktX8_add_0 := by decide +kernel
theorem dX8_add_0 : decode cX8_add 0 = .ok (.aload_n 0, 1) := dk_42 (dk_at dksX8_add_0 0 rfl rfl)
theorem dX8_add_1 : decode cX8_add 1 = .ok (.invokevirtual 86, 3) := dk_182 0 86 (dk_at dksX8_add_0 1 rfl rfl)
theorem dX8_add_4 : decode cX8_add 4 = .ok (.aload_n 0, 1) := dk_42 (dk_at dksX8_add_0 4 rfl rfl)
theorem dX8_add_5 : decode cX8_add 5 = .ok (.aload_n 0, 1) := dk_42 (dk_at dksX8_add_0 5 rfl rfl)
theorem dX8_add_6 : decode cX8_add 6 = .ok (.aload_n 0, 1) := dk_42 (dk_at dksX8_add_0 6 rfl rfl)
theorem dX8_add_7 : decode cX8_add 7 = .ok (.getfield 9, 3) := dk_180 0 9 (dk_at dksX8_add_0 7 rfl rfl)
theorem dX8_add_10 : decode cX8_add 10 = .ok (.iconst 1, 1) := dk_4 (dk_at dksX8_add_0 10 rfl rfl)
theorem dX8_add_11 : decode cX8_add 11 = .ok (.iaload, 1) := dk_46 (dk_at dksX8_add_0 11 rfl rfl)
theorem dX8_add_12 : decode cX8_add 12 = .ok (.iload_n 1, 1) := dk_27 (dk_at dksX8_add_0 12 rfl rfl)
theorem dX8_add_13 : decode cX8_add 13 = .ok (.iload_n 2, 1) := dk_28 (dk_at dksX8_add_0 13 rfl rfl)
theorem dX8_add_14 : decode cX8_add 14 = .ok (.iload_n 3, 1) := dk_29 (dk_at dksX8_add_0 14 rfl rfl)
theorem dX8_add_15 : decode cX8_add 15 = .ok (.iconst 1, 1) := dk_4 (dk_at dksX8_add_0 15 rfl rfl)
theorem dX8_add_16 : decode cX8_add 16 = .ok (.invokevirtual 153, 3) := dk_182 0 153 (dk_at dksX8_add_0 16 rfl rfl)
theorem dX8_add_19 : decode cX8_add 19 = .ok (.invokevirtual 93, 3) := dk_182 0 93 (dk_at dksX8_add_0 19 rfl rfl)
theorem dX8_add_22 : decode cX8_add 22 = .ok (.ireturn, 1) := dk_172 (dk_at dksX8_add_0 22 rfl rfl)
abbrev cX8_doInsert : ByteArray := prog_15_method_31_code
def yX8_doInsert : MethodName := ⟨RX8, "doInsert", "(IIIII)I"⟩
def dkwX8_doInsert_4 : List UInt8 := [28, 29, 21, 4, 182, 0, 149, 42, 180, 0, 9, 4, 92, 46, 4, 96, 79, 21, 6, 4, 96, 172]
abbrev dktX8_doInsert_4 : List UInt8 := dkwX8_doInsert_4 ++ []
def dkwX8_doInsert_3 : List UInt8 := [96, 42, 180, 0, 9, 16, 37, 6, 27, 104, 96, 6, 96, 6, 21, 6, 27, 100, 104, 184, 0, 67, 42, 27]
abbrev dktX8_doInsert_3 : List UInt8 := dkwX8_doInsert_3 ++ dktX8_doInsert_4
def dkwX8_doInsert_2 : List UInt8 := [160, 0, 15, 42, 21, 5, 4, 96, 5, 16, 25, 182, 0, 96, 172, 42, 180, 0, 9, 16, 37, 6, 27, 104]
abbrev dktX8_doInsert_2 : List UInt8 := dkwX8_doInsert_2 ++ dktX8_doInsert_3
def dkwX8_doInsert_1 : List UInt8 := [21, 4, 182, 0, 145, 154, 0, 5, 3, 172, 42, 180, 0, 9, 4, 46, 54, 6, 21, 6, 16, 24]
abbrev dktX8_doInsert_1 : List UInt8 := dkwX8_doInsert_1 ++ dktX8_doInsert_2
def dkwX8_doInsert_0 : List UInt8 := [28, 3, 16, 9, 184, 0, 82, 154, 0, 10, 42, 21, 5, 182, 0, 89, 172, 42, 21, 5, 4, 96, 28, 29]
abbrev dktX8_doInsert_0 : List UInt8 := dkwX8_doInsert_0 ++ dktX8_doInsert_1
theorem dksX8_doInsert_0 : cX8_doInsert.data.toList.drop 0 = dktX8_doInsert_0 := by decide +kernel
theorem dksX8_doInsert_1 : cX8_doInsert.data.toList.drop 24 = dktX8_doInsert_1 := dk_seg dksX8_doInsert_0 24 rfl rfl
theorem dksX8_doInsert_2 : cX8_doInsert.data.toList.drop 46 = dktX8_doInsert_2 := dk_seg dksX8_doInsert_1 22 rfl rfl
theorem dksX8_doInsert_3 : cX8_doInsert.data.toList.drop 70 = dktX8_doInsert_3 := dk_seg dksX8_doInsert_2 24 rfl rfl
theorem dksX8_doInsert_4 : cX8_doInsert.data.toList.drop 94 = dktX8_doInsert_4 := dk_seg dksX8_doInsert_3 24 rfl rfl
theorem dX8_doInsert_0 : decode cX8_doInsert 0 = .ok (.iload_n 2, 1) := dk_28 (dk_at dksX8_doInsert_0 0 rfl rfl)
theorem dX8_doInsert_1 : decode cX8_doInsert 1 = .ok (.iconst 0, 1) := dk_3 (dk_at dksX8_doInsert_0 1 rfl rfl)
theorem dX8_doInsert_2 : decode cX8_doInsert 2 = .ok (.bipush 9, 2) := dk_16 9 (dk_at dksX8_doInsert_0 2 rfl rfl)
theorem dX8_doInsert_4 : decode cX8_doInsert 4 = .ok (.invokestatic 82, 3) := dk_184 0 82 (dk_at dksX8_doInsert_0 4 rfl rfl)
theorem dX8_doInsert_7 : decode cX8_doInsert 7 = .ok (.ifCond .ne 10, 3) := dk_154 0 10 (dk_at dksX8_doInsert_0 7 rfl rfl)
theorem dX8_doInsert_10 : decode cX8_doInsert 10 = .ok (.aload_n 0, 1) := dk_42 (dk_at dksX8_doInsert_0 10 rfl rfl)
theorem dX8_doInsert_11 : decode cX8_doInsert 11 = .ok (.iload 5, 2) := dk_21 5 (dk_at dksX8_doInsert_0 11 rfl rfl)
theorem dX8_doInsert_13 : decode cX8_doInsert 13 = .ok (.invokevirtual 89, 3) := dk_182 0 89 (dk_at dksX8_doInsert_0 13 rfl rfl)
theorem dX8_doInsert_16 : decode cX8_doInsert 16 = .ok (.ireturn, 1) := dk_172 (dk_at dksX8_doInsert_0 16 rfl rfl)
theorem dX8_doInsert_17 : decode cX8_doInsert 17 = .ok (.aload_n 0, 1) := dk_42 (dk_at dksX8_doInsert_0 17 rfl rfl)
theorem dX8_doInsert_18 : decode cX8_doInsert 18 = .ok (.iload 5, 2) := dk_21 5 (dk_at dksX8_doInsert_0 18 rfl rfl)
theorem dX8_doInsert_20 : decode cX8_doInsert 20 = .ok (.iconst 1, 1) := dk_4 (dk_at dksX8_doInsert_0 20 rfl rfl)
theorem dX8_doInsert_21 : decode cX8_doInsert 21 = .ok (.iadd, 1) := dk_96 (dk_at dksX8_doInsert_0 21 rfl rfl)
theorem dX8_doInsert_22 : decode cX8_doInsert 22 = .ok (.iload_n 2, 1) := dk_28 (dk_at dksX8_doInsert_0 22 rfl rfl)
theorem dX8_doInsert_23 : decode cX8_doInsert 23 = .ok (.iload_n 3, 1) := dk_29 (dk_at dksX8_doInsert_0 23 rfl rfl)
theorem dX8_doInsert_24 : decode cX8_doInsert 24 = .ok (.iload 4, 2) := dk_21 4 (dk_at dksX8_doInsert_1 0 rfl rfl)
theorem dX8_doInsert_26 : decode cX8_doInsert 26 = .ok (.invokevirtual 145, 3) := dk_182 0 145 (dk_at dksX8_doInsert_1 2 rfl rfl)
theorem dX8_doInsert_29 : decode cX8_doInsert 29 = .ok (.ifCond .ne 5, 3) := dk_154 0 5 (dk_at dksX8_doInsert_1 5 rfl rfl)
theorem dX8_doInsert_32 : decode cX8_doInsert 32 = .ok (.iconst 0, 1) := dk_3 (dk_at dksX8_doInsert_1 8 rfl rfl)
theorem dX8_doInsert_33 : decode cX8_doInsert 33 = .ok (.ireturn, 1) := dk_172 (dk_at dksX8_doInsert_1 9 rfl rfl)
theorem dX8_doInsert_34 : decode cX8_doInsert 34 = .ok (.aload_n 0, 1) := dk_42 (dk_at dksX8_doInsert_1 10 rfl rfl)
theorem dX8_doInsert_35 : decode cX8_doInsert 35 = .ok (.getfield 9, 3) := dk_180 0 9 (dk_at dksX8_doInsert_1 11 rfl rfl)
theorem dX8_doInsert_38 : decode cX8_doInsert 38 = .ok (.iconst 1, 1) := dk_4 (dk_at dksX8_doInsert_1 14 rfl rfl)
theorem dX8_doInsert_39 : decode cX8_doInsert 39 = .ok (.iaload, 1) := dk_46 (dk_at dksX8_doInsert_1 15 rfl rfl)
theorem dX8_doInsert_40 : decode cX8_doInsert 40 = .ok (.istore 6, 2) := dk_54 6 (dk_at dksX8_doInsert_1 16 rfl rfl)
theorem dX8_doInsert_42 : decode cX8_doInsert 42 = .ok (.iload 6, 2) := dk_21 6 (dk_at dksX8_doInsert_1 18 rfl rfl)
theorem dX8_doInsert_44 : decode cX8_doInsert 44 = .ok (.bipush 24, 2) := dk_16 24 (dk_at dksX8_doInsert_1 20 rfl rfl)
theorem dX8_doInsert_46 : decode cX8_doInsert 46 = .ok (.if_icmp .ne 15, 3) := dk_160 0 15 (dk_at dksX8_doInsert_2 0 rfl rfl)
theorem dX8_doInsert_49 : decode cX8_doInsert 49 = .ok (.aload_n 0, 1) := dk_42 (dk_at dksX8_doInsert_2 3 rfl rfl)
theorem dX8_doInsert_50 : decode cX8_doInsert 50 = .ok (.iload 5, 2) := dk_21 5 (dk_at dksX8_doInsert_2 4 rfl rfl)
theorem dX8_doInsert_52 : decode cX8_doInsert 52 = .ok (.iconst 1, 1) := dk_4 (dk_at dksX8_doInsert_2 6 rfl rfl)
theorem dX8_doInsert_53 : decode cX8_doInsert 53 = .ok (.iadd, 1) := dk_96 (dk_at dksX8_doInsert_2 7 rfl rfl)
theorem dX8_doInsert_54 : decode cX8_doInsert 54 = .ok (.iconst 2, 1) := dk_5 (dk_at dksX8_doInsert_2 8 rfl rfl)
theorem dX8_doInsert_55 : decode cX8_doInsert 55 = .ok (.bipush 25, 2) := dk_16 25 (dk_at dksX8_doInsert_2 9 rfl rfl)
theorem dX8_doInsert_57 : decode cX8_doInsert 57 = .ok (.invokevirtual 96, 3) := dk_182 0 96 (dk_at dksX8_doInsert_2 11 rfl rfl)
theorem dX8_doInsert_60 : decode cX8_doInsert 60 = .ok (.ireturn, 1) := dk_172 (dk_at dksX8_doInsert_2 14 rfl rfl)
theorem dX8_doInsert_61 : decode cX8_doInsert 61 = .ok (.aload_n 0, 1) := dk_42 (dk_at dksX8_doInsert_2 15 rfl rfl)
theorem dX8_doInsert_62 : decode cX8_doInsert 62 = .ok (.getfield 9, 3) := dk_180 0 9 (dk_at dksX8_doInsert_2 16 rfl rfl)
theorem dX8_doInsert_65 : decode cX8_doInsert 65 = .ok (.bipush 37, 2) := dk_16 37 (dk_at dksX8_doInsert_2 19 rfl rfl)
theorem dX8_doInsert_67 : decode cX8_doInsert 67 = .ok (.iconst 3, 1) := dk_6 (dk_at dksX8_doInsert_2 21 rfl rfl)
theorem dX8_doInsert_68 : decode cX8_doInsert 68 = .ok (.iload_n 1, 1) := dk_27 (dk_at dksX8_doInsert_2 22 rfl rfl)
theorem dX8_doInsert_69 : decode cX8_doInsert 69 = .ok (.imul, 1) := dk_104 (dk_at dksX8_doInsert_2 23 rfl rfl)
theorem dX8_doInsert_70 : decode cX8_doInsert 70 = .ok (.iadd, 1) := dk_96 (dk_at dksX8_doInsert_3 0 rfl rfl)
theorem dX8_doInsert_71 : decode cX8_doInsert 71 = .ok (.aload_n 0, 1) := dk_42 (dk_at dksX8_doInsert_3 1 rfl rfl)
theorem dX8_doInsert_72 : decode cX8_doInsert 72 = .ok (.getfield 9, 3) := dk_180 0 9 (dk_at dksX8_doInsert_3 2 rfl rfl)
theorem dX8_doInsert_75 : decode cX8_doInsert 75 = .ok (.bipush 37, 2) := dk_16 37 (dk_at dksX8_doInsert_3 5 rfl rfl)
theorem dX8_doInsert_77 : decode cX8_doInsert 77 = .ok (.iconst 3, 1) := dk_6 (dk_at dksX8_doInsert_3 7 rfl rfl)
theorem dX8_doInsert_78 : decode cX8_doInsert 78 = .ok (.iload_n 1, 1) := dk_27 (dk_at dksX8_doInsert_3 8 rfl rfl)
theorem dX8_doInsert_79 : decode cX8_doInsert 79 = .ok (.imul, 1) := dk_104 (dk_at dksX8_doInsert_3 9 rfl rfl)
theorem dX8_doInsert_80 : decode cX8_doInsert 80 = .ok (.iadd, 1) := dk_96 (dk_at dksX8_doInsert_3 10 rfl rfl)
theorem dX8_doInsert_81 : decode cX8_doInsert 81 = .ok (.iconst 3, 1) := dk_6 (dk_at dksX8_doInsert_3 11 rfl rfl)
theorem dX8_doInsert_82 : decode cX8_doInsert 82 = .ok (.iadd, 1) := dk_96 (dk_at dksX8_doInsert_3 12 rfl rfl)
theorem dX8_doInsert_83 : decode cX8_doInsert 83 = .ok (.iconst 3, 1) := dk_6 (dk_at dksX8_doInsert_3 13 rfl rfl)
theorem dX8_doInsert_84 : decode cX8_doInsert 84 = .ok (.iload 6, 2) := dk_21 6 (dk_at dksX8_doInsert_3 14 rfl rfl)
theorem dX8_doInsert_86 : decode cX8_doInsert 86 = .ok (.iload_n 1, 1) := dk_27 (dk_at dksX8_doInsert_3 16 rfl rfl)
theorem dX8_doInsert_87 : decode cX8_doInsert 87 = .ok (.isub, 1) := dk_100 (dk_at dksX8_doInsert_3 17 rfl rfl)
theorem dX8_doInsert_88 : decode cX8_doInsert 88 = .ok (.imul, 1) := dk_104 (dk_at dksX8_doInsert_3 18 rfl rfl)
theorem dX8_doInsert_89 : decode cX8_doInsert 89 = .ok (.invokestatic 67, 3) := dk_184 0 67 (dk_at dksX8_doInsert_3 19 rfl rfl)
theorem dX8_doInsert_92 : decode cX8_doInsert 92 = .ok (.aload_n 0, 1) := dk_42 (dk_at dksX8_doInsert_3 22 rfl rfl)
theorem dX8_doInsert_93 : decode cX8_doInsert 93 = .ok (.iload_n 1, 1) := dk_27 (dk_at dksX8_doInsert_3 23 rfl rfl)
theorem dX8_doInsert_94 : decode cX8_doInsert 94 = .ok (.iload_n 2, 1) := dk_28 (dk_at dksX8_doInsert_4 0 rfl rfl)
theorem dX8_doInsert_95 : decode cX8_doInsert 95 = .ok (.iload_n 3, 1) := dk_29 (dk_at dksX8_doInsert_4 1 rfl rfl)
theorem dX8_doInsert_96 : decode cX8_doInsert 96 = .ok (.iload 4, 2) := dk_21 4 (dk_at dksX8_doInsert_4 2 rfl rfl)
theorem dX8_doInsert_98 : decode cX8_doInsert 98 = .ok (.invokevirtual 149, 3) := dk_182 0 149 (dk_at dksX8_doInsert_4 4 rfl rfl)
theorem dX8_doInsert_101 : decode cX8_doInsert 101 = .ok (.aload_n 0, 1) := dk_42 (dk_at dksX8_doInsert_4 7 rfl rfl)
theorem dX8_doInsert_102 : decode cX8_doInsert 102 = .ok (.getfield 9, 3) := dk_180 0 9 (dk_at dksX8_doInsert_4 8 rfl rfl)
theorem dX8_doInsert_105 : decode cX8_doInsert 105 = .ok (.iconst 1, 1) := dk_4 (dk_at dksX8_doInsert_4 11 rfl rfl)
theorem dX8_doInsert_106 : decode cX8_doInsert 106 = .ok (.dup2, 1) := dk_92 (dk_at dksX8_doInsert_4 12 rfl rfl)
theorem dX8_doInsert_107 : decode cX8_doInsert 107 = .ok (.iaload, 1) := dk_46 (dk_at dksX8_doInsert_4 13 rfl rfl)
theorem dX8_doInsert_108 : decode cX8_doInsert 108 = .ok (.iconst 1, 1) := dk_4 (dk_at dksX8_doInsert_4 14 rfl rfl)
theorem dX8_doInsert_109 : decode cX8_doInsert 109 = .ok (.iadd, 1) := dk_96 (dk_at dksX8_doInsert_4 15 rfl rfl)
theorem dX8_doInsert_110 : decode cX8_doInsert 110 = .ok (.iastore, 1) := dk_79 (dk_at dksX8_doInsert_4 16 rfl rfl)
theorem dX8_doInsert_111 : decode cX8_doInsert 111 = .ok (.iload 6, 2) := dk_21 6 (dk_at dksX8_doInsert_4 17 rfl rfl)
theorem dX8_doInsert_113 : decode cX8_doInsert 113 = .ok (.iconst 1, 1) := dk_4 (dk_at dksX8_doInsert_4 19 rfl rfl)
theorem dX8_doInsert_114 : decode cX8_doInsert 114 = .ok (.iadd, 1) := dk_96 (dk_at dksX8_doInsert_4 20 rfl rfl)
theorem dX8_doInsert_115 : decode cX8_doInsert 115 = .ok (.ireturn, 1) := dk_172 (dk_at dksX8_doInsert_4 21 rfl rfl)
abbrev cX8_isFit : ByteArray := prog_15_method_29_code
def yX8_isFit : MethodName := ⟨RX8, "isFit", "(IIII)Z"⟩
def dkwX8_isFit_4 : List UInt8 := [54, 7, 21, 6, 172]
abbrev dktX8_isFit_4 : List UInt8 := dkwX8_isFit_4 ++ []
def dkwX8_isFit_3 : List UInt8 := [42, 27, 6, 21, 5, 153, 0, 15, 28, 184, 0, 142, 153, 0, 8, 21, 4, 167, 0, 4, 29, 182, 0, 96]
abbrev dktX8_isFit_3 : List UInt8 := dkwX8_isFit_3 ++ dktX8_isFit_4
def dkwX8_isFit_2 : List UInt8 := [153, 0, 12, 42, 21, 4, 182, 0, 100, 153, 0, 7, 4, 167, 0, 4, 3, 54, 6, 21, 6, 154, 0, 29]
abbrev dktX8_isFit_2 : List UInt8 := dkwX8_isFit_2 ++ dktX8_isFit_3
def dkwX8_isFit_1 : List UInt8 := [21, 5, 153, 0, 38, 28, 184, 0, 139, 153, 0, 11, 42, 29, 182, 0, 100, 153, 0, 23, 28, 184, 0, 142]
abbrev dktX8_isFit_1 : List UInt8 := dkwX8_isFit_1 ++ dktX8_isFit_2
def dkwX8_isFit_0 : List UInt8 := [28, 184, 0, 136, 153, 0, 12, 29, 3, 7, 184, 0, 82, 153, 0, 7, 4, 167, 0, 4, 3, 54, 5]
abbrev dktX8_isFit_0 : List UInt8 := dkwX8_isFit_0 ++ dktX8_isFit_1
theorem dksX8_isFit_0 : cX8_isFit.data.toList.drop 0 = dktX8_isFit_0 := by decide +kernel
theorem dksX8_isFit_1 : cX8_isFit.data.toList.drop 23 = dktX8_isFit_1 := dk_seg dksX8_isFit_0 23 rfl rfl
theorem dksX8_isFit_2 : cX8_isFit.data.toList.drop 47 = dktX8_isFit_2 := dk_seg dksX8_isFit_1 24 rfl rfl
theorem dksX8_isFit_3 : cX8_isFit.data.toList.drop 71 = dktX8_isFit_3 := dk_seg dksX8_isFit_2 24 rfl rfl
theorem dksX8_isFit_4 : cX8_isFit.data.toList.drop 95 = dktX8_isFit_4 := dk_seg dksX8_isFit_3 24 rfl rfl
theorem dX8_isFit_0 : decode cX8_isFit 0 = .ok (.iload_n 2, 1) := dk_28 (dk_at dksX8_isFit_0 0 rfl rfl)
theorem dX8_isFit_1 : decode cX8_isFit 1 = .ok (.invokestatic 136, 3) := dk_184 0 136 (dk_at dksX8_isFit_0 1 rfl rfl)
theorem dX8_isFit_4 : decode cX8_isFit 4 = .ok (.ifCond .eq 12, 3) := dk_153 0 12 (dk_at dksX8_isFit_0 4 rfl rfl)
theorem dX8_isFit_7 : decode cX8_isFit 7 = .ok (.iload_n 3, 1) := dk_29 (dk_at dksX8_isFit_0 7 rfl rfl)
theorem dX8_isFit_8 : decode cX8_isFit 8 = .ok (.iconst 0, 1) := dk_3 (dk_at dksX8_isFit_0 8 rfl rfl)
theorem dX8_isFit_9 : decode cX8_isFit 9 = .ok (.iconst 4, 1) := dk_7 (dk_at dksX8_isFit_0 9 rfl rfl)
theorem dX8_isFit_10 : decode cX8_isFit 10 = .ok (.invokestatic 82, 3) := dk_184 0 82 (dk_at dksX8_isFit_0 10 rfl rfl)
theorem dX8_isFit_13 : decode cX8_isFit 13 = .ok (.ifCond .eq 7, 3) := dk_153 0 7 (dk_at dksX8_isFit_0 13 rfl rfl)
theorem dX8_isFit_16 : decode cX8_isFit 16 = .ok (.iconst 1, 1) := dk_4 (dk_at dksX8_isFit_0 16 rfl rfl)
theorem dX8_isFit_17 : decode cX8_isFit 17 = .ok (.goto 4, 3) := dk_167 0 4 (dk_at dksX8_isFit_0 17 rfl rfl)
theorem dX8_isFit_20 : decode cX8_isFit 20 = .ok (.iconst 0, 1) := dk_3 (dk_at dksX8_isFit_0 20 rfl rfl)
theorem dX8_isFit_21 : decode cX8_isFit 21 = .ok (.istore 5, 2) := dk_54 5 (dk_at dksX8_isFit_0 21 rfl rfl)
theorem dX8_isFit_23 : decode cX8_isFit 23 = .ok (.iload 5, 2) := dk_21 5 (dk_at dksX8_isFit_1 0 rfl rfl)
theorem dX8_isFit_25 : decode cX8_isFit 25 = .ok (.ifCond .eq 38, 3) := dk_153 0 38 (dk_at dksX8_isFit_1 2 rfl rfl)
theorem dX8_isFit_28 : decode cX8_isFit 28 = .ok (.iload_n 2, 1) := dk_28 (dk_at dksX8_isFit_1 5 rfl rfl)
theorem dX8_isFit_29 : decode cX8_isFit 29 = .ok (.invokestatic 139, 3) := dk_184 0 139 (dk_at dksX8_isFit_1 6 rfl rfl)
theorem dX8_isFit_32 : decode cX8_isFit 32 = .ok (.ifCond .eq 11, 3) := dk_153 0 11 (dk_at dksX8_isFit_1 9 rfl rfl)
theorem dX8_isFit_35 : decode cX8_isFit 35 = .ok (.aload_n 0, 1) := dk_42 (dk_at dksX8_isFit_1 12 rfl rfl)
theorem dX8_isFit_36 : decode cX8_isFit 36 = .ok (.iload_n 3, 1) := dk_29 (dk_at dksX8_isFit_1 13 rfl rfl)
theorem dX8_isFit_37 : decode cX8_isFit 37 = .ok (.invokevirtual 100, 3) := dk_182 0 100 (dk_at dksX8_isFit_1 14 rfl rfl)
theorem dX8_isFit_40 : decode cX8_isFit 40 = .ok (.ifCond .eq 23, 3) := dk_153 0 23 (dk_at dksX8_isFit_1 17 rfl rfl)
theorem dX8_isFit_43 : decode cX8_isFit 43 = .ok (.iload_n 2, 1) := dk_28 (dk_at dksX8_isFit_1 20 rfl rfl)
theorem dX8_isFit_44 : decode cX8_isFit 44 = .ok (.invokestatic 142, 3) := dk_184 0 142 (dk_at dksX8_isFit_1 21 rfl rfl)
theorem dX8_isFit_47 : decode cX8_isFit 47 = .ok (.ifCond .eq 12, 3) := dk_153 0 12 (dk_at dksX8_isFit_2 0 rfl rfl)
theorem dX8_isFit_50 : decode cX8_isFit 50 = .ok (.aload_n 0, 1) := dk_42 (dk_at dksX8_isFit_2 3 rfl rfl)
theorem dX8_isFit_51 : decode cX8_isFit 51 = .ok (.iload 4, 2) := dk_21 4 (dk_at dksX8_isFit_2 4 rfl rfl)
theorem dX8_isFit_53 : decode cX8_isFit 53 = .ok (.invokevirtual 100, 3) := dk_182 0 100 (dk_at dksX8_isFit_2 6 rfl rfl)
theorem dX8_isFit_56 : decode cX8_isFit 56 = .ok (.ifCond .eq 7, 3) := dk_153 0 7 (dk_at dksX8_isFit_2 9 rfl rfl)
theorem dX8_isFit_59 : decode cX8_isFit 59 = .ok (.iconst 1, 1) := dk_4 (dk_at dksX8_isFit_2 12 rfl rfl)
theorem dX8_isFit_60 : decode cX8_isFit 60 = .ok (.goto 4, 3) := dk_167 0 4 (dk_at dksX8_isFit_2 13 rfl rfl)
theorem dX8_isFit_63 : decode cX8_isFit 63 = .ok (.iconst 0, 1) := dk_3 (dk_at dksX8_isFit_2 16 rfl rfl)
theorem dX8_isFit_64 : decode cX8_isFit 64 = .ok (.istore 6, 2) := dk_54 6 (dk_at dksX8_isFit_2 17 rfl rfl)
theorem dX8_isFit_66 : decode cX8_isFit 66 = .ok (.iload 6, 2) := dk_21 6 (dk_at dksX8_isFit_2 19 rfl rfl)
theorem dX8_isFit_68 : decode cX8_isFit 68 = .ok (.ifCond .ne 29, 3) := dk_154 0 29 (dk_at dksX8_isFit_2 21 rfl rfl)
theorem dX8_isFit_71 : decode cX8_isFit 71 = .ok (.aload_n 0, 1) := dk_42 (dk_at dksX8_isFit_3 0 rfl rfl)
theorem dX8_isFit_72 : decode cX8_isFit 72 = .ok (.iload_n 1, 1) := dk_27 (dk_at dksX8_isFit_3 1 rfl rfl)
theorem dX8_isFit_73 : decode cX8_isFit 73 = .ok (.iconst 3, 1) := dk_6 (dk_at dksX8_isFit_3 2 rfl rfl)
theorem dX8_isFit_74 : decode cX8_isFit 74 = .ok (.iload 5, 2) := dk_21 5 (dk_at dksX8_isFit_3 3 rfl rfl)
theorem dX8_isFit_76 : decode cX8_isFit 76 = .ok (.ifCond .eq 15, 3) := dk_153 0 15 (dk_at dksX8_isFit_3 5 rfl rfl)
theorem dX8_isFit_79 : decode cX8_isFit 79 = .ok (.iload_n 2, 1) := dk_28 (dk_at dksX8_isFit_3 8 rfl rfl)
theorem dX8_isFit_80 : decode cX8_isFit 80 = .ok (.invokestatic 142, 3) := dk_184 0 142 (dk_at dksX8_isFit_3 9 rfl rfl)
theorem dX8_isFit_83 : decode cX8_isFit 83 = .ok (.ifCond .eq 8, 3) := dk_153 0 8 (dk_at dksX8_isFit_3 12 rfl rfl)
theorem dX8_isFit_86 : decode cX8_isFit 86 = .ok (.iload 4, 2) := dk_21 4 (dk_at dksX8_isFit_3 15 rfl rfl)
theorem dX8_isFit_88 : decode cX8_isFit 88 = .ok (.goto 4, 3) := dk_167 0 4 (dk_at dksX8_isFit_3 17 rfl rfl)
theorem dX8_isFit_91 : decode cX8_isFit 91 = .ok (.iload_n 3, 1) := dk_29 (dk_at dksX8_isFit_3 20 rfl rfl)
theorem dX8_isFit_92 : decode cX8_isFit 92 = .ok (.invokevirtual 96, 3) := dk_182 0 96 (dk_at dksX8_isFit_3 21 rfl rfl)
theorem dX8_isFit_95 : decode cX8_isFit 95 = .ok (.istore 7, 2) := dk_54 7 (dk_at dksX8_isFit_4 0 rfl rfl)
theorem dX8_isFit_97 : decode cX8_isFit 97 = .ok (.iload 6, 2) := dk_21 6 (dk_at dksX8_isFit_4 2 rfl rfl)
theorem dX8_isFit_99 : decode cX8_isFit 99 = .ok (.ireturn, 1) := dk_172 (dk_at dksX8_isFit_4 4 rfl rfl)
abbrev cX8_hasPlough : ByteArray := prog_15_method_26_code
def yX8_hasPlough : MethodName := ⟨RX8, "hasPlough", "(I)Z"⟩
def dkwX8_hasPlough_0 : List UInt8 := [26, 7, 16, 6, 184, 0, 82, 172]
abbrev dktX8_hasPlough_0 : List UInt8 := dkwX8_hasPlough_0 ++ []
theorem dksX8_hasPlough_0 : cX8_hasPlough.data.toList.drop 0 = dktX8_hasPlough_0 := by decide +kernel
theorem dX8_hasPlough_0 : decode cX8_hasPlough 0 = .ok (.iload_n 0, 1) := dk_26 (dk_at dksX8_hasPlough_0 0 rfl rfl)
theorem dX8_hasPlough_1 : decode cX8_hasPlough 1 = .ok (.iconst 4, 1) := dk_7 (dk_at dksX8_hasPlough_0 1 rfl rfl)
theorem dX8_hasPlough_2 : decode cX8_hasPlough 2 = .ok (.bipush 6, 2) := dk_16 6 (dk_at dksX8_hasPlough_0 2 rfl rfl)
theorem dX8_hasPlough_4 : decode cX8_hasPlough 4 = .ok (.invokestatic 82, 3) := dk_184 0 82 (dk_at dksX8_hasPlough_0 4 rfl rfl)
theorem dX8_hasPlough_7 : decode cX8_hasPlough 7 = .ok (.ireturn, 1) := dk_172 (dk_at dksX8_hasPlough_0 7 rfl rfl)
abbrev cX8_hasGood : ByteArray := prog_15_method_28_code
def yX8_hasGood : MethodName := ⟨RX8, "hasGood", "(I)Z"⟩
def dkwX8_hasGood_0 : List UInt8 := [26, 5, 159, 0, 8, 26, 6, 160, 0, 7, 4, 167, 0, 4, 3, 172]
abbrev dktX8_hasGood_0 : List UInt8 := dkwX8_hasGood_0 ++ []
theorem dksX8_hasGood_0 : cX8_hasGood.data.toList.drop 0 = dktX8_hasGood_0 := by decide +kernel
theorem dX8_hasGood_0 : decode cX8_hasGood 0 = .ok (.iload_n 0, 1) := dk_26 (dk_at dksX8_hasGood_0 0 rfl rfl)
theorem dX8_hasGood_1 : decode cX8_hasGood 1 = .ok (.iconst 2, 1) := dk_5 (dk_at dksX8_hasGood_0 1 rfl rfl)
theorem dX8_hasGood_2 : decode cX8_hasGood 2 = .ok (.if_icmp .eq 8, 3) := dk_159 0 8 (dk_at dksX8_hasGood_0 2 rfl rfl)
theorem dX8_hasGood_5 : decode cX8_hasGood 5 = .ok (.iload_n 0, 1) := dk_26 (dk_at dksX8_hasGood_0 5 rfl rfl)
theorem dX8_hasGood_6 : decode cX8_hasGood 6 = .ok (.iconst 3, 1) := dk_6 (dk_at dksX8_hasGood_0 6 rfl rfl)
theorem dX8_hasGood_7 : decode cX8_hasGood 7 = .ok (.if_icmp .ne 7, 3) := dk_160 0 7 (dk_at dksX8_hasGood_0 7 rfl rfl)
theorem dX8_hasGood_10 : decode cX8_hasGood 10 = .ok (.iconst 1, 1) := dk_4 (dk_at dksX8_hasGood_0 10 rfl rfl)
theorem dX8_hasGood_11 : decode cX8_hasGood 11 = .ok (.goto 4, 3) := dk_167 0 4 (dk_at dksX8_hasGood_0 11 rfl rfl)
theorem dX8_hasGood_14 : decode cX8_hasGood 14 = .ok (.iconst 0, 1) := dk_3 (dk_at dksX8_hasGood_0 14 rfl rfl)
theorem dX8_hasGood_15 : decode cX8_hasGood 15 = .ok (.ireturn, 1) := dk_172 (dk_at dksX8_hasGood_0 15 rfl rfl)
abbrev cX8_isPut : ByteArray := prog_15_method_27_code
def yX8_isPut : MethodName := ⟨RX8, "isPut", "(I)Z"⟩
def dkwX8_isPut_0 : List UInt8 := [26, 7, 159, 0, 8, 26, 8, 160, 0, 7, 4, 167, 0, 4, 3, 172]
abbrev dktX8_isPut_0 : List UInt8 := dkwX8_isPut_0 ++ []
theorem dksX8_isPut_0 : cX8_isPut.data.toList.drop 0 = dktX8_isPut_0 := by decide +kernel
theorem dX8_isPut_0 : decode cX8_isPut 0 = .ok (.iload_n 0, 1) := dk_26 (dk_at dksX8_isPut_0 0 rfl rfl)
theorem dX8_isPut_1 : decode cX8_isPut 1 = .ok (.iconst 4, 1) := dk_7 (dk_at dksX8_isPut_0 1 rfl rfl)
theorem dX8_isPut_2 : decode cX8_isPut 2 = .ok (.if_icmp .eq 8, 3) := dk_159 0 8 (dk_at dksX8_isPut_0 2 rfl rfl)
theorem dX8_isPut_5 : decode cX8_isPut 5 = .ok (.iload_n 0, 1) := dk_26 (dk_at dksX8_isPut_0 5 rfl rfl)
theorem dX8_isPut_6 : decode cX8_isPut 6 = .ok (.iconst 5, 1) := dk_8 (dk_at dksX8_isPut_0 6 rfl rfl)
theorem dX8_isPut_7 : decode cX8_isPut 7 = .ok (.if_icmp .ne 7, 3) := dk_160 0 7 (dk_at dksX8_isPut_0 7 rfl rfl)
theorem dX8_isPut_10 : decode cX8_isPut 10 = .ok (.iconst 1, 1) := dk_4 (dk_at dksX8_isPut_0 10 rfl rfl)
theorem dX8_isPut_11 : decode cX8_isPut 11 = .ok (.goto 4, 3) := dk_167 0 4 (dk_at dksX8_isPut_0 11 rfl rfl)
theorem dX8_isPut_14 : decode cX8_isPut 14 = .ok (.iconst 0, 1) := dk_3 (dk_at dksX8_isPut_0 14 rfl rfl)
theorem dX8_isPut_15 : decode cX8_isPut 15 = .ok (.ireturn, 1) := dk_172 (dk_at dksX8_isPut_0 15 rfl rfl)
abbrev cX8_sets : ByteArray := prog_15_method_30_code
def yX8_sets : MethodName := ⟨RX8, "sets", "(IIII)V"⟩
def dkwX8_sets_2 : List UInt8 := [16, 37, 6, 27, 104, 96, 5, 96, 28, 184, 0, 142, 153, 0, 8, 21, 4, 167, 0, 4, 3, 79, 177]
abbrev dktX8_sets_2 : List UInt8 := dkwX8_sets_2 ++ []
def dkwX8_sets_1 : List UInt8 := [28, 184, 0, 136, 154, 0, 10, 28, 184, 0, 139, 153, 0, 7, 29, 167, 0, 4, 3, 79, 42, 180, 0, 9]
abbrev dktX8_sets_1 : List UInt8 := dkwX8_sets_1 ++ dktX8_sets_2
def dkwX8_sets_0 : List UInt8 := [42, 180, 0, 9, 16, 37, 6, 27, 104, 96, 28, 79, 42, 180, 0, 9, 16, 37, 6, 27, 104, 96, 4, 96]
abbrev dktX8_sets_0 : List UInt8 := dkwX8_sets_0 ++ dktX8_sets_1
theorem dksX8_sets_0 : cX8_sets.data.toList.drop 0 = dktX8_sets_0 := by decide +kernel
theorem dksX8_sets_1 : cX8_sets.data.toList.drop 24 = dktX8_sets_1 := dk_seg dksX8_sets_0 24 rfl rfl
theorem dksX8_sets_2 : cX8_sets.data.toList.drop 48 = dktX8_sets_2 := dk_seg dksX8_sets_1 24 rfl rfl
theorem dX8_sets_0 : decode cX8_sets 0 = .ok (.aload_n 0, 1) := dk_42 (dk_at dksX8_sets_0 0 rfl rfl)
theorem dX8_sets_1 : decode cX8_sets 1 = .ok (.getfield 9, 3) := dk_180 0 9 (dk_at dksX8_sets_0 1 rfl rfl)
theorem dX8_sets_4 : decode cX8_sets 4 = .ok (.bipush 37, 2) := dk_16 37 (dk_at dksX8_sets_0 4 rfl rfl)
theorem dX8_sets_6 : decode cX8_sets 6 = .ok (.iconst 3, 1) := dk_6 (dk_at dksX8_sets_0 6 rfl rfl)
theorem dX8_sets_7 : decode cX8_sets 7 = .ok (.iload_n 1, 1) := dk_27 (dk_at dksX8_sets_0 7 rfl rfl)
theorem dX8_sets_8 : decode cX8_sets 8 = .ok (.imul, 1) := dk_104 (dk_at dksX8_sets_0 8 rfl rfl)
theorem dX8_sets_9 : decode cX8_sets 9 = .ok (.iadd, 1) := dk_96 (dk_at dksX8_sets_0 9 rfl rfl)
theorem dX8_sets_10 : decode cX8_sets 10 = .ok (.iload_n 2, 1) := dk_28 (dk_at dksX8_sets_0 10 rfl rfl)
theorem dX8_sets_11 : decode cX8_sets 11 = .ok (.iastore, 1) := dk_79 (dk_at dksX8_sets_0 11 rfl rfl)
theorem dX8_sets_12 : decode cX8_sets 12 = .ok (.aload_n 0, 1) := dk_42 (dk_at dksX8_sets_0 12 rfl rfl)
theorem dX8_sets_13 : decode cX8_sets 13 = .ok (.getfield 9, 3) := dk_180 0 9 (dk_at dksX8_sets_0 13 rfl rfl)
theorem dX8_sets_16 : decode cX8_sets 16 = .ok (.bipush 37, 2) := dk_16 37 (dk_at dksX8_sets_0 16 rfl rfl)
theorem dX8_sets_18 : decode cX8_sets 18 = .ok (.iconst 3, 1) := dk_6 (dk_at dksX8_sets_0 18 rfl rfl)
theorem dX8_sets_19 : decode cX8_sets 19 = .ok (.iload_n 1, 1) := dk_27 (dk_at dksX8_sets_0 19 rfl rfl)
theorem dX8_sets_20 : decode cX8_sets 20 = .ok (.imul, 1) := dk_104 (dk_at dksX8_sets_0 20 rfl rfl)
theorem dX8_sets_21 : decode cX8_sets 21 = .ok (.iadd, 1) := dk_96 (dk_at dksX8_sets_0 21 rfl rfl)
theorem dX8_sets_22 : decode cX8_sets 22 = .ok (.iconst 1, 1) := dk_4 (dk_at dksX8_sets_0 22 rfl rfl)
theorem dX8_sets_23 : decode cX8_sets 23 = .ok (.iadd, 1) := dk_96 (dk_at dksX8_sets_0 23 rfl rfl)
theorem dX8_sets_24 : decode cX8_sets 24 = .ok (.iload_n 2, 1) := dk_28 (dk_at dksX8_sets_1 0 rfl rfl)
theorem dX8_sets_25 : decode cX8_sets 25 = .ok (.invokestatic 136, 3) := dk_184 0 136 (dk_at dksX8_sets_1 1 rfl rfl)
theorem dX8_sets_28 : decode cX8_sets 28 = .ok (.ifCond .ne 10, 3) := dk_154 0 10 (dk_at dksX8_sets_1 4 rfl rfl)
theorem dX8_sets_31 : decode cX8_sets 31 = .ok (.iload_n 2, 1) := dk_28 (dk_at dksX8_sets_1 7 rfl rfl)
theorem dX8_sets_32 : decode cX8_sets 32 = .ok (.invokestatic 139, 3) := dk_184 0 139 (dk_at dksX8_sets_1 8 rfl rfl)
theorem dX8_sets_35 : decode cX8_sets 35 = .ok (.ifCond .eq 7, 3) := dk_153 0 7 (dk_at dksX8_sets_1 11 rfl rfl)
theorem dX8_sets_38 : decode cX8_sets 38 = .ok (.iload_n 3, 1) := dk_29 (dk_at dksX8_sets_1 14 rfl rfl)
theorem dX8_sets_39 : decode cX8_sets 39 = .ok (.goto 4, 3) := dk_167 0 4 (dk_at dksX8_sets_1 15 rfl rfl)
theorem dX8_sets_42 : decode cX8_sets 42 = .ok (.iconst 0, 1) := dk_3 (dk_at dksX8_sets_1 18 rfl rfl)
theorem dX8_sets_43 : decode cX8_sets 43 = .ok (.iastore, 1) := dk_79 (dk_at dksX8_sets_1 19 rfl rfl)
theorem dX8_sets_44 : decode cX8_sets 44 = .ok (.aload_n 0, 1) := dk_42 (dk_at dksX8_sets_1 20 rfl rfl)
theorem dX8_sets_45 : decode cX8_sets 45 = .ok (.getfield 9, 3) := dk_180 0 9 (dk_at dksX8_sets_1 21 rfl rfl)
theorem dX8_sets_48 : decode cX8_sets 48 = .ok (.bipush 37, 2) := dk_16 37 (dk_at dksX8_sets_2 0 rfl rfl)
theorem dX8_sets_50 : decode cX8_sets 50 = .ok (.iconst 3, 1) := dk_6 (dk_at dksX8_sets_2 2 rfl rfl)
theorem dX8_sets_51 : decode cX8_sets 51 = .ok (.iload_n 1, 1) := dk_27 (dk_at dksX8_sets_2 3 rfl rfl)
theorem dX8_sets_52 : decode cX8_sets 52 = .ok (.imul, 1) := dk_104 (dk_at dksX8_sets_2 4 rfl rfl)
theorem dX8_sets_53 : decode cX8_sets 53 = .ok (.iadd, 1) := dk_96 (dk_at dksX8_sets_2 5 rfl rfl)
theorem dX8_sets_54 : decode cX8_sets 54 = .ok (.iconst 2, 1) := dk_5 (dk_at dksX8_sets_2 6 rfl rfl)
theorem dX8_sets_55 : decode cX8_sets 55 = .ok (.iadd, 1) := dk_96 (dk_at dksX8_sets_2 7 rfl rfl)
theorem dX8_sets_56 : decode cX8_sets 56 = .ok (.iload_n 2, 1) := dk_28 (dk_at dksX8_sets_2 8 rfl rfl)
theorem dX8_sets_57 : decode cX8_sets 57 = .ok (.invokestatic 142, 3) := dk_184 0 142 (dk_at dksX8_sets_2 9 rfl rfl)
theorem dX8_sets_60 : decode cX8_sets 60 = .ok (.ifCond .eq 8, 3) := dk_153 0 8 (dk_at dksX8_sets_2 12 rfl rfl)
theorem dX8_sets_63 : decode cX8_sets 63 = .ok (.iload 4, 2) := dk_21 4 (dk_at dksX8_sets_2 15 rfl rfl)
theorem dX8_sets_65 : decode cX8_sets 65 = .ok (.goto 4, 3) := dk_167 0 4 (dk_at dksX8_sets_2 17 rfl rfl)
theorem dX8_sets_68 : decode cX8_sets 68 = .ok (.iconst 0, 1) := dk_3 (dk_at dksX8_sets_2 20 rfl rfl)
theorem dX8_sets_69 : decode cX8_sets 69 = .ok (.iastore, 1) := dk_79 (dk_at dksX8_sets_2 21 rfl rfl)
theorem dX8_sets_70 : decode cX8_sets 70 = .ok (.return_, 1) := dk_177 (dk_at dksX8_sets_2 22 rfl rfl)
abbrev cX8_insert : ByteArray := prog_15_method_33_code
def yX8_insert : MethodName := ⟨RX8, "insert", "(IIII)I"⟩
def dkwX8_insert_1 : List UInt8 := [182, 0, 93, 172, 42, 42, 27, 28, 29, 21, 4, 5, 182, 0, 153, 182, 0, 93, 172]
abbrev dktX8_insert_1 : List UInt8 := dkwX8_insert_1 ++ []
def dkwX8_insert_0 : List UInt8 := [42, 182, 0, 86, 27, 3, 42, 180, 0, 9, 4, 46, 184, 0, 82, 154, 0, 13, 42, 42, 4, 182, 0, 89]
abbrev dktX8_insert_0 : List UInt8 := dkwX8_insert_0 ++ dktX8_insert_1
theorem dksX8_insert_0 : cX8_insert.data.toList.drop 0 = dktX8_insert_0 := by decide +kernel
theorem dksX8_insert_1 : cX8_insert.data.toList.drop 24 = dktX8_insert_1 := dk_seg dksX8_insert_0 24 rfl rfl
theorem dX8_insert_0 : decode cX8_insert 0 = .ok (.aload_n 0, 1) := dk_42 (dk_at dksX8_insert_0 0 rfl rfl)
theorem dX8_insert_1 : decode cX8_insert 1 = .ok (.invokevirtual 86, 3) := dk_182 0 86 (dk_at dksX8_insert_0 1 rfl rfl)
theorem dX8_insert_4 : decode cX8_insert 4 = .ok (.iload_n 1, 1) := dk_27 (dk_at dksX8_insert_0 4 rfl rfl)
theorem dX8_insert_5 : decode cX8_insert 5 = .ok (.iconst 0, 1) := dk_3 (dk_at dksX8_insert_0 5 rfl rfl)
theorem dX8_insert_6 : decode cX8_insert 6 = .ok (.aload_n 0, 1) := dk_42 (dk_at dksX8_insert_0 6 rfl rfl)
theorem dX8_insert_7 : decode cX8_insert 7 = .ok (.getfield 9, 3) := dk_180 0 9 (dk_at dksX8_insert_0 7 rfl rfl)
theorem dX8_insert_10 : decode cX8_insert 10 = .ok (.iconst 1, 1) := dk_4 (dk_at dksX8_insert_0 10 rfl rfl)
theorem dX8_insert_11 : decode cX8_insert 11 = .ok (.iaload, 1) := dk_46 (dk_at dksX8_insert_0 11 rfl rfl)
theorem dX8_insert_12 : decode cX8_insert 12 = .ok (.invokestatic 82, 3) := dk_184 0 82 (dk_at dksX8_insert_0 12 rfl rfl)
theorem dX8_insert_15 : decode cX8_insert 15 = .ok (.ifCond .ne 13, 3) := dk_154 0 13 (dk_at dksX8_insert_0 15 rfl rfl)
theorem dX8_insert_18 : decode cX8_insert 18 = .ok (.aload_n 0, 1) := dk_42 (dk_at dksX8_insert_0 18 rfl rfl)
theorem dX8_insert_19 : decode cX8_insert 19 = .ok (.aload_n 0, 1) := dk_42 (dk_at dksX8_insert_0 19 rfl rfl)
theorem dX8_insert_20 : decode cX8_insert 20 = .ok (.iconst 1, 1) := dk_4 (dk_at dksX8_insert_0 20 rfl rfl)
theorem dX8_insert_21 : decode cX8_insert 21 = .ok (.invokevirtual 89, 3) := dk_182 0 89 (dk_at dksX8_insert_0 21 rfl rfl)
theorem dX8_insert_24 : decode cX8_insert 24 = .ok (.invokevirtual 93, 3) := dk_182 0 93 (dk_at dksX8_insert_1 0 rfl rfl)
theorem dX8_insert_27 : decode cX8_insert 27 = .ok (.ireturn, 1) := dk_172 (dk_at dksX8_insert_1 3 rfl rfl)
theorem dX8_insert_28 : decode cX8_insert 28 = .ok (.aload_n 0, 1) := dk_42 (dk_at dksX8_insert_1 4 rfl rfl)
theorem dX8_insert_29 : decode cX8_insert 29 = .ok (.aload_n 0, 1) := dk_42 (dk_at dksX8_insert_1 5 rfl rfl)
theorem dX8_insert_30 : decode cX8_insert 30 = .ok (.iload_n 1, 1) := dk_27 (dk_at dksX8_insert_1 6 rfl rfl)
theorem dX8_insert_31 : decode cX8_insert 31 = .ok (.iload_n 2, 1) := dk_28 (dk_at dksX8_insert_1 7 rfl rfl)
theorem dX8_insert_32 : decode cX8_insert 32 = .ok (.iload_n 3, 1) := dk_29 (dk_at dksX8_insert_1 8 rfl rfl)
theorem dX8_insert_33 : decode cX8_insert 33 = .ok (.iload 4, 2) := dk_21 4 (dk_at dksX8_insert_1 9 rfl rfl)
theorem dX8_insert_35 : decode cX8_insert 35 = .ok (.iconst 2, 1) := dk_5 (dk_at dksX8_insert_1 11 rfl rfl)
theorem dX8_insert_36 : decode cX8_insert 36 = .ok (.invokevirtual 153, 3) := dk_182 0 153 (dk_at dksX8_insert_1 12 rfl rfl)
theorem dX8_insert_39 : decode cX8_insert 39 = .ok (.invokevirtual 93, 3) := dk_182 0 93 (dk_at dksX8_insert_1 15 rfl rfl)
theorem dX8_insert_42 : decode cX8_insert 42 = .ok (.ireturn, 1) := dk_172 (dk_at dksX8_insert_1 18 rfl rfl)
abbrev cX8_remove : ByteArray := prog_15_method_35_code
def yX8_remove : MethodName := ⟨RX8, "remove", "(I)I"⟩
def dkwX8_remove_3 : List UInt8 := [100, 79, 42, 28, 182, 0, 93, 172]
abbrev dktX8_remove_3 : List UInt8 := dkwX8_remove_3 ++ []
def dkwX8_remove_2 : List UInt8 := [100, 6, 42, 180, 0, 9, 4, 46, 27, 100, 4, 100, 104, 184, 0, 67, 42, 180, 0, 9, 4, 92, 46, 4]
abbrev dktX8_remove_2 : List UInt8 := dkwX8_remove_2 ++ dktX8_remove_3
def dkwX8_remove_1 : List UInt8 := [182, 0, 110, 61, 16, 37, 6, 27, 104, 96, 6, 96, 62, 42, 180, 0, 9, 29, 42, 180, 0, 9, 29, 6]
abbrev dktX8_remove_1 : List UInt8 := dkwX8_remove_1 ++ dktX8_remove_2
def dkwX8_remove_0 : List UInt8 := [42, 182, 0, 86, 42, 27, 182, 0, 157, 154, 0, 13, 42, 42, 4, 182, 0, 89, 182, 0, 93, 172, 42, 27]
abbrev dktX8_remove_0 : List UInt8 := dkwX8_remove_0 ++ dktX8_remove_1
theorem dksX8_remove_0 : cX8_remove.data.toList.drop 0 = dktX8_remove_0 := by decide +kernel
theorem dksX8_remove_1 : cX8_remove.data.toList.drop 24 = dktX8_remove_1 := dk_seg dksX8_remove_0 24 rfl rfl
theorem dksX8_remove_2 : cX8_remove.data.toList.drop 48 = dktX8_remove_2 := dk_seg dksX8_remove_1 24 rfl rfl
theorem dksX8_remove_3 : cX8_remove.data.toList.drop 72 = dktX8_remove_3 := dk_seg dksX8_remove_2 24 rfl rfl
theorem dX8_remove_0 : decode cX8_remove 0 = .ok (.aload_n 0, 1) := dk_42 (dk_at dksX8_remove_0 0 rfl rfl)
theorem dX8_remove_1 : decode cX8_remove 1 = .ok (.invokevirtual 86, 3) := dk_182 0 86 (dk_at dksX8_remove_0 1 rfl rfl)
theorem dX8_remove_4 : decode cX8_remove 4 = .ok (.aload_n 0, 1) := dk_42 (dk_at dksX8_remove_0 4 rfl rfl)
theorem dX8_remove_5 : decode cX8_remove 5 = .ok (.iload_n 1, 1) := dk_27 (dk_at dksX8_remove_0 5 rfl rfl)
theorem dX8_remove_6 : decode cX8_remove 6 = .ok (.invokevirtual 157, 3) := dk_182 0 157 (dk_at dksX8_remove_0 6 rfl rfl)
theorem dX8_remove_9 : decode cX8_remove 9 = .ok (.ifCond .ne 13, 3) := dk_154 0 13 (dk_at dksX8_remove_0 9 rfl rfl)
theorem dX8_remove_12 : decode cX8_remove 12 = .ok (.aload_n 0, 1) := dk_42 (dk_at dksX8_remove_0 12 rfl rfl)
theorem dX8_remove_13 : decode cX8_remove 13 = .ok (.aload_n 0, 1) := dk_42 (dk_at dksX8_remove_0 13 rfl rfl)
theorem dX8_remove_14 : decode cX8_remove 14 = .ok (.iconst 1, 1) := dk_4 (dk_at dksX8_remove_0 14 rfl rfl)
theorem dX8_remove_15 : decode cX8_remove 15 = .ok (.invokevirtual 89, 3) := dk_182 0 89 (dk_at dksX8_remove_0 15 rfl rfl)
theorem dX8_remove_18 : decode cX8_remove 18 = .ok (.invokevirtual 93, 3) := dk_182 0 93 (dk_at dksX8_remove_0 18 rfl rfl)
theorem dX8_remove_21 : decode cX8_remove 21 = .ok (.ireturn, 1) := dk_172 (dk_at dksX8_remove_0 21 rfl rfl)
theorem dX8_remove_22 : decode cX8_remove 22 = .ok (.aload_n 0, 1) := dk_42 (dk_at dksX8_remove_0 22 rfl rfl)
theorem dX8_remove_23 : decode cX8_remove 23 = .ok (.iload_n 1, 1) := dk_27 (dk_at dksX8_remove_0 23 rfl rfl)
theorem dX8_remove_24 : decode cX8_remove 24 = .ok (.invokevirtual 110, 3) := dk_182 0 110 (dk_at dksX8_remove_1 0 rfl rfl)
theorem dX8_remove_27 : decode cX8_remove 27 = .ok (.istore_n 2, 1) := dk_61 (dk_at dksX8_remove_1 3 rfl rfl)
theorem dX8_remove_28 : decode cX8_remove 28 = .ok (.bipush 37, 2) := dk_16 37 (dk_at dksX8_remove_1 4 rfl rfl)
theorem dX8_remove_30 : decode cX8_remove 30 = .ok (.iconst 3, 1) := dk_6 (dk_at dksX8_remove_1 6 rfl rfl)
theorem dX8_remove_31 : decode cX8_remove 31 = .ok (.iload_n 1, 1) := dk_27 (dk_at dksX8_remove_1 7 rfl rfl)
theorem dX8_remove_32 : decode cX8_remove 32 = .ok (.imul, 1) := dk_104 (dk_at dksX8_remove_1 8 rfl rfl)
theorem dX8_remove_33 : decode cX8_remove 33 = .ok (.iadd, 1) := dk_96 (dk_at dksX8_remove_1 9 rfl rfl)
theorem dX8_remove_34 : decode cX8_remove 34 = .ok (.iconst 3, 1) := dk_6 (dk_at dksX8_remove_1 10 rfl rfl)
theorem dX8_remove_35 : decode cX8_remove 35 = .ok (.iadd, 1) := dk_96 (dk_at dksX8_remove_1 11 rfl rfl)
theorem dX8_remove_36 : decode cX8_remove 36 = .ok (.istore_n 3, 1) := dk_62 (dk_at dksX8_remove_1 12 rfl rfl)
theorem dX8_remove_37 : decode cX8_remove 37 = .ok (.aload_n 0, 1) := dk_42 (dk_at dksX8_remove_1 13 rfl rfl)
theorem dX8_remove_38 : decode cX8_remove 38 = .ok (.getfield 9, 3) := dk_180 0 9 (dk_at dksX8_remove_1 14 rfl rfl)
theorem dX8_remove_41 : decode cX8_remove 41 = .ok (.iload_n 3, 1) := dk_29 (dk_at dksX8_remove_1 17 rfl rfl)
theorem dX8_remove_42 : decode cX8_remove 42 = .ok (.aload_n 0, 1) := dk_42 (dk_at dksX8_remove_1 18 rfl rfl)
theorem dX8_remove_43 : decode cX8_remove 43 = .ok (.getfield 9, 3) := dk_180 0 9 (dk_at dksX8_remove_1 19 rfl rfl)
theorem dX8_remove_46 : decode cX8_remove 46 = .ok (.iload_n 3, 1) := dk_29 (dk_at dksX8_remove_1 22 rfl rfl)
theorem dX8_remove_47 : decode cX8_remove 47 = .ok (.iconst 3, 1) := dk_6 (dk_at dksX8_remove_1 23 rfl rfl)
theorem dX8_remove_48 : decode cX8_remove 48 = .ok (.isub, 1) := dk_100 (dk_at dksX8_remove_2 0 rfl rfl)
theorem dX8_remove_49 : decode cX8_remove 49 = .ok (.iconst 3, 1) := dk_6 (dk_at dksX8_remove_2 1 rfl rfl)
theorem dX8_remove_50 : decode cX8_remove 50 = .ok (.aload_n 0, 1) := dk_42 (dk_at dksX8_remove_2 2 rfl rfl)
theorem dX8_remove_51 : decode cX8_remove 51 = .ok (.getfield 9, 3) := dk_180 0 9 (dk_at dksX8_remove_2 3 rfl rfl)
theorem dX8_remove_54 : decode cX8_remove 54 = .ok (.iconst 1, 1) := dk_4 (dk_at dksX8_remove_2 6 rfl rfl)
theorem dX8_remove_55 : decode cX8_remove 55 = .ok (.iaload, 1) := dk_46 (dk_at dksX8_remove_2 7 rfl rfl)
theorem dX8_remove_56 : decode cX8_remove 56 = .ok (.iload_n 1, 1) := dk_27 (dk_at dksX8_remove_2 8 rfl rfl)
theorem dX8_remove_57 : decode cX8_remove 57 = .ok (.isub, 1) := dk_100 (dk_at dksX8_remove_2 9 rfl rfl)
theorem dX8_remove_58 : decode cX8_remove 58 = .ok (.iconst 1, 1) := dk_4 (dk_at dksX8_remove_2 10 rfl rfl)
theorem dX8_remove_59 : decode cX8_remove 59 = .ok (.isub, 1) := dk_100 (dk_at dksX8_remove_2 11 rfl rfl)
theorem dX8_remove_60 : decode cX8_remove 60 = .ok (.imul, 1) := dk_104 (dk_at dksX8_remove_2 12 rfl rfl)
theorem dX8_remove_61 : decode cX8_remove 61 = .ok (.invokestatic 67, 3) := dk_184 0 67 (dk_at dksX8_remove_2 13 rfl rfl)
theorem dX8_remove_64 : decode cX8_remove 64 = .ok (.aload_n 0, 1) := dk_42 (dk_at dksX8_remove_2 16 rfl rfl)
theorem dX8_remove_65 : decode cX8_remove 65 = .ok (.getfield 9, 3) := dk_180 0 9 (dk_at dksX8_remove_2 17 rfl rfl)
theorem dX8_remove_68 : decode cX8_remove 68 = .ok (.iconst 1, 1) := dk_4 (dk_at dksX8_remove_2 20 rfl rfl)
theorem dX8_remove_69 : decode cX8_remove 69 = .ok (.dup2, 1) := dk_92 (dk_at dksX8_remove_2 21 rfl rfl)
theorem dX8_remove_70 : decode cX8_remove 70 = .ok (.iaload, 1) := dk_46 (dk_at dksX8_remove_2 22 rfl rfl)
theorem dX8_remove_71 : decode cX8_remove 71 = .ok (.iconst 1, 1) := dk_4 (dk_at dksX8_remove_2 23 rfl rfl)
theorem dX8_remove_72 : decode cX8_remove 72 = .ok (.isub, 1) := dk_100 (dk_at dksX8_remove_3 0 rfl rfl)
theorem dX8_remove_73 : decode cX8_remove 73 = .ok (.iastore, 1) := dk_79 (dk_at dksX8_remove_3 1 rfl rfl)
theorem dX8_remove_74 : decode cX8_remove 74 = .ok (.aload_n 0, 1) := dk_42 (dk_at dksX8_remove_3 2 rfl rfl)
theorem dX8_remove_75 : decode cX8_remove 75 = .ok (.iload_n 2, 1) := dk_28 (dk_at dksX8_remove_3 3 rfl rfl)
theorem dX8_remove_76 : decode cX8_remove 76 = .ok (.invokevirtual 93, 3) := dk_182 0 93 (dk_at dksX8_remove_3 4 rfl rfl)
theorem dX8_remove_79 : decode cX8_remove 79 = .ok (.ireturn, 1) := dk_172 (dk_at dksX8_remove_3 7 rfl rfl)
abbrev cX8_isClause : ByteArray := prog_15_method_34_code
def yX8_isClause : MethodName := ⟨RX8, "isClause", "(I)Z"⟩
def dkwX8_isClause_0 : List UInt8 := [27, 3, 42, 180, 0, 9, 4, 46, 4, 100, 184, 0, 82, 172]
abbrev dktX8_isClause_0 : List UInt8 := dkwX8_isClause_0 ++ []
theorem dksX8_isClause_0 : cX8_isClause.data.toList.drop 0 = dktX8_isClause_0 := by decide +kernel
theorem dX8_isClause_0 : decode cX8_isClause 0 = .ok (.iload_n 1, 1) := dk_27 (dk_at dksX8_isClause_0 0 rfl rfl)
theorem dX8_isClause_1 : decode cX8_isClause 1 = .ok (.iconst 0, 1) := dk_3 (dk_at dksX8_isClause_0 1 rfl rfl)
theorem dX8_isClause_2 : decode cX8_isClause 2 = .ok (.aload_n 0, 1) := dk_42 (dk_at dksX8_isClause_0 2 rfl rfl)
theorem dX8_isClause_3 : decode cX8_isClause 3 = .ok (.getfield 9, 3) := dk_180 0 9 (dk_at dksX8_isClause_0 3 rfl rfl)
theorem dX8_isClause_6 : decode cX8_isClause 6 = .ok (.iconst 1, 1) := dk_4 (dk_at dksX8_isClause_0 6 rfl rfl)
theorem dX8_isClause_7 : decode cX8_isClause 7 = .ok (.iaload, 1) := dk_46 (dk_at dksX8_isClause_0 7 rfl rfl)
theorem dX8_isClause_8 : decode cX8_isClause 8 = .ok (.iconst 1, 1) := dk_4 (dk_at dksX8_isClause_0 8 rfl rfl)
theorem dX8_isClause_9 : decode cX8_isClause 9 = .ok (.isub, 1) := dk_100 (dk_at dksX8_isClause_0 9 rfl rfl)
theorem dX8_isClause_10 : decode cX8_isClause 10 = .ok (.invokestatic 82, 3) := dk_184 0 82 (dk_at dksX8_isClause_0 10 rfl rfl)
theorem dX8_isClause_13 : decode cX8_isClause 13 = .ok (.ireturn, 1) := dk_172 (dk_at dksX8_isClause_0 13 rfl rfl)
abbrev cX8_clauseOf : ByteArray := prog_15_method_37_code
def yX8_clauseOf : MethodName := ⟨RX8, "clauseOf", "(II)I"⟩
def dkwX8_clauseOf_3 : List UInt8 := [27, 46, 167, 0, 4, 2, 172]
abbrev dktX8_clauseOf_3 : List UInt8 := dkwX8_clauseOf_3 ++ []
def dkwX8_clauseOf_2 : List UInt8 := [180, 0, 9, 16, 37, 6, 27, 104, 96, 28, 96, 46, 172, 42, 182, 0, 169, 153, 0, 12, 42, 180, 0, 28]
abbrev dktX8_clauseOf_2 : List UInt8 := dkwX8_clauseOf_2 ++ dktX8_clauseOf_3
def dkwX8_clauseOf_1 : List UInt8 := [167, 0, 4, 3, 181, 0, 64, 42, 180, 0, 64, 158, 0, 5, 3, 172, 28, 6, 162, 0, 17, 42]
abbrev dktX8_clauseOf_1 : List UInt8 := dkwX8_clauseOf_1 ++ dktX8_clauseOf_2
def dkwX8_clauseOf_0 : List UInt8 := [42, 42, 27, 182, 0, 157, 154, 0, 7, 4, 167, 0, 17, 28, 3, 6, 184, 0, 82, 154, 0, 7, 5]
abbrev dktX8_clauseOf_0 : List UInt8 := dkwX8_clauseOf_0 ++ dktX8_clauseOf_1
theorem dksX8_clauseOf_0 : cX8_clauseOf.data.toList.drop 0 = dktX8_clauseOf_0 := by decide +kernel
theorem dksX8_clauseOf_1 : cX8_clauseOf.data.toList.drop 23 = dktX8_clauseOf_1 := dk_seg dksX8_clauseOf_0 23 rfl rfl
theorem dksX8_clauseOf_2 : cX8_clauseOf.data.toList.drop 45 = dktX8_clauseOf_2 := dk_seg dksX8_clauseOf_1 22 rfl rfl
theorem dksX8_clauseOf_3 : cX8_clauseOf.data.toList.drop 69 = dktX8_clauseOf_3 := dk_seg dksX8_clauseOf_2 24 rfl rfl
theorem dX8_clauseOf_0 : decode cX8_clauseOf 0 = .ok (.aload_n 0, 1) := dk_42 (dk_at dksX8_clauseOf_0 0 rfl rfl)
theorem dX8_clauseOf_1 : decode cX8_clauseOf 1 = .ok (.aload_n 0, 1) := dk_42 (dk_at dksX8_clauseOf_0 1 rfl rfl)
theorem dX8_clauseOf_2 : decode cX8_clauseOf 2 = .ok (.iload_n 1, 1) := dk_27 (dk_at dksX8_clauseOf_0 2 rfl rfl)
theorem dX8_clauseOf_3 : decode cX8_clauseOf 3 = .ok (.invokevirtual 157, 3) := dk_182 0 157 (dk_at dksX8_clauseOf_0 3 rfl rfl)
theorem dX8_clauseOf_6 : decode cX8_clauseOf 6 = .ok (.ifCond .ne 7, 3) := dk_154 0 7 (dk_at dksX8_clauseOf_0 6 rfl rfl)
theorem dX8_clauseOf_9 : decode cX8_clauseOf 9 = .ok (.iconst 1, 1) := dk_4 (dk_at dksX8_clauseOf_0 9 rfl rfl)
theorem dX8_clauseOf_10 : decode cX8_clauseOf 10 = .ok (.goto 17, 3) := dk_167 0 17 (dk_at dksX8_clauseOf_0 10 rfl rfl)
theorem dX8_clauseOf_13 : decode cX8_clauseOf 13 = .ok (.iload_n 2, 1) := dk_28 (dk_at dksX8_clauseOf_0 13 rfl rfl)
theorem dX8_clauseOf_14 : decode cX8_clauseOf 14 = .ok (.iconst 0, 1) := dk_3 (dk_at dksX8_clauseOf_0 14 rfl rfl)
theorem dX8_clauseOf_15 : decode cX8_clauseOf 15 = .ok (.iconst 3, 1) := dk_6 (dk_at dksX8_clauseOf_0 15 rfl rfl)
theorem dX8_clauseOf_16 : decode cX8_clauseOf 16 = .ok (.invokestatic 82, 3) := dk_184 0 82 (dk_at dksX8_clauseOf_0 16 rfl rfl)
theorem dX8_clauseOf_19 : decode cX8_clauseOf 19 = .ok (.ifCond .ne 7, 3) := dk_154 0 7 (dk_at dksX8_clauseOf_0 19 rfl rfl)
theorem dX8_clauseOf_22 : decode cX8_clauseOf 22 = .ok (.iconst 2, 1) := dk_5 (dk_at dksX8_clauseOf_0 22 rfl rfl)
theorem dX8_clauseOf_23 : decode cX8_clauseOf 23 = .ok (.goto 4, 3) := dk_167 0 4 (dk_at dksX8_clauseOf_1 0 rfl rfl)
theorem dX8_clauseOf_26 : decode cX8_clauseOf 26 = .ok (.iconst 0, 1) := dk_3 (dk_at dksX8_clauseOf_1 3 rfl rfl)
theorem dX8_clauseOf_27 : decode cX8_clauseOf 27 = .ok (.putfield 64, 3) := dk_181 0 64 (dk_at dksX8_clauseOf_1 4 rfl rfl)
theorem dX8_clauseOf_30 : decode cX8_clauseOf 30 = .ok (.aload_n 0, 1) := dk_42 (dk_at dksX8_clauseOf_1 7 rfl rfl)
theorem dX8_clauseOf_31 : decode cX8_clauseOf 31 = .ok (.getfield 64, 3) := dk_180 0 64 (dk_at dksX8_clauseOf_1 8 rfl rfl)
theorem dX8_clauseOf_34 : decode cX8_clauseOf 34 = .ok (.ifCond .le 5, 3) := dk_158 0 5 (dk_at dksX8_clauseOf_1 11 rfl rfl)
theorem dX8_clauseOf_37 : decode cX8_clauseOf 37 = .ok (.iconst 0, 1) := dk_3 (dk_at dksX8_clauseOf_1 14 rfl rfl)
theorem dX8_clauseOf_38 : decode cX8_clauseOf 38 = .ok (.ireturn, 1) := dk_172 (dk_at dksX8_clauseOf_1 15 rfl rfl)
theorem dX8_clauseOf_39 : decode cX8_clauseOf 39 = .ok (.iload_n 2, 1) := dk_28 (dk_at dksX8_clauseOf_1 16 rfl rfl)
theorem dX8_clauseOf_40 : decode cX8_clauseOf 40 = .ok (.iconst 3, 1) := dk_6 (dk_at dksX8_clauseOf_1 17 rfl rfl)
theorem dX8_clauseOf_41 : decode cX8_clauseOf 41 = .ok (.if_icmp .ge 17, 3) := dk_162 0 17 (dk_at dksX8_clauseOf_1 18 rfl rfl)
theorem dX8_clauseOf_44 : decode cX8_clauseOf 44 = .ok (.aload_n 0, 1) := dk_42 (dk_at dksX8_clauseOf_1 21 rfl rfl)
theorem dX8_clauseOf_45 : decode cX8_clauseOf 45 = .ok (.getfield 9, 3) := dk_180 0 9 (dk_at dksX8_clauseOf_2 0 rfl rfl)
theorem dX8_clauseOf_48 : decode cX8_clauseOf 48 = .ok (.bipush 37, 2) := dk_16 37 (dk_at dksX8_clauseOf_2 3 rfl rfl)
theorem dX8_clauseOf_50 : decode cX8_clauseOf 50 = .ok (.iconst 3, 1) := dk_6 (dk_at dksX8_clauseOf_2 5 rfl rfl)
theorem dX8_clauseOf_51 : decode cX8_clauseOf 51 = .ok (.iload_n 1, 1) := dk_27 (dk_at dksX8_clauseOf_2 6 rfl rfl)
theorem dX8_clauseOf_52 : decode cX8_clauseOf 52 = .ok (.imul, 1) := dk_104 (dk_at dksX8_clauseOf_2 7 rfl rfl)
theorem dX8_clauseOf_53 : decode cX8_clauseOf 53 = .ok (.iadd, 1) := dk_96 (dk_at dksX8_clauseOf_2 8 rfl rfl)
theorem dX8_clauseOf_54 : decode cX8_clauseOf 54 = .ok (.iload_n 2, 1) := dk_28 (dk_at dksX8_clauseOf_2 9 rfl rfl)
theorem dX8_clauseOf_55 : decode cX8_clauseOf 55 = .ok (.iadd, 1) := dk_96 (dk_at dksX8_clauseOf_2 10 rfl rfl)
theorem dX8_clauseOf_56 : decode cX8_clauseOf 56 = .ok (.iaload, 1) := dk_46 (dk_at dksX8_clauseOf_2 11 rfl rfl)
theorem dX8_clauseOf_57 : decode cX8_clauseOf 57 = .ok (.ireturn, 1) := dk_172 (dk_at dksX8_clauseOf_2 12 rfl rfl)
theorem dX8_clauseOf_58 : decode cX8_clauseOf 58 = .ok (.aload_n 0, 1) := dk_42 (dk_at dksX8_clauseOf_2 13 rfl rfl)
theorem dX8_clauseOf_59 : decode cX8_clauseOf 59 = .ok (.invokevirtual 169, 3) := dk_182 0 169 (dk_at dksX8_clauseOf_2 14 rfl rfl)
theorem dX8_clauseOf_62 : decode cX8_clauseOf 62 = .ok (.ifCond .eq 12, 3) := dk_153 0 12 (dk_at dksX8_clauseOf_2 17 rfl rfl)
theorem dX8_clauseOf_65 : decode cX8_clauseOf 65 = .ok (.aload_n 0, 1) := dk_42 (dk_at dksX8_clauseOf_2 20 rfl rfl)
theorem dX8_clauseOf_66 : decode cX8_clauseOf 66 = .ok (.getfield 28, 3) := dk_180 0 28 (dk_at dksX8_clauseOf_2 21 rfl rfl)
theorem dX8_clauseOf_69 : decode cX8_clauseOf 69 = .ok (.iload_n 1, 1) := dk_27 (dk_at dksX8_clauseOf_3 0 rfl rfl)
theorem dX8_clauseOf_70 : decode cX8_clauseOf 70 = .ok (.iaload, 1) := dk_46 (dk_at dksX8_clauseOf_3 1 rfl rfl)
theorem dX8_clauseOf_71 : decode cX8_clauseOf 71 = .ok (.goto 4, 3) := dk_167 0 4 (dk_at dksX8_clauseOf_3 2 rfl rfl)
theorem dX8_clauseOf_74 : decode cX8_clauseOf 74 = .ok (.iconst (-1), 1) := dk_2 (dk_at dksX8_clauseOf_3 5 rfl rfl)
theorem dX8_clauseOf_75 : decode cX8_clauseOf 75 = .ok (.ireturn, 1) := dk_172 (dk_at dksX8_clauseOf_3 6 rfl rfl)
abbrev cX8_nests : ByteArray := prog_15_method_36_code
def yX8_nests : MethodName := ⟨RX8, "nests", "()Z"⟩
def dkwX8_nests_9 : List UInt8 := [167, 255, 51, 27, 154, 0, 7, 4, 167, 0, 4, 3, 172]
abbrev dktX8_nests_9 : List UInt8 := dkwX8_nests_9 ++ []
def dkwX8_nests_8 : List UInt8 := [46, 167, 0, 4, 28, 79, 132, 1, 1, 42, 42, 180, 0, 160, 27, 184, 0, 163, 181, 0, 160, 132, 2, 1]
abbrev dktX8_nests_8 : List UInt8 := dkwX8_nests_8 ++ dktX8_nests_9
def dkwX8_nests_7 : List UInt8 := [16, 8, 167, 0, 5, 16, 9, 79, 42, 180, 0, 25, 27, 29, 16, 8, 160, 0, 12, 42, 180, 0, 25, 27]
abbrev dktX8_nests_7 : List UInt8 := dkwX8_nests_7 ++ dktX8_nests_8
def dkwX8_nests_6 : List UInt8 := [16, 8, 160, 0, 67, 42, 180, 0, 22, 27, 29, 154, 0, 7, 4, 167, 0, 16, 29, 16, 7, 160, 0, 8]
abbrev dktX8_nests_6 : List UInt8 := dkwX8_nests_6 ++ dktX8_nests_7
def dkwX8_nests_5 : List UInt8 := [42, 180, 0, 34, 42, 180, 0, 25, 27, 46, 28, 79, 29, 153, 0, 15, 29, 16, 7, 159, 0, 9, 29]
abbrev dktX8_nests_5 : List UInt8 := dkwX8_nests_5 ++ dktX8_nests_6
def dkwX8_nests_4 : List UInt8 := [160, 0, 18, 42, 180, 0, 31, 42, 180, 0, 25, 27, 46, 28, 79, 167, 0, 21, 29, 16, 9, 160, 0, 15]
abbrev dktX8_nests_4 : List UInt8 := dkwX8_nests_4 ++ dktX8_nests_5
def dkwX8_nests_3 : List UInt8 := [172, 27, 21, 4, 153, 0, 7, 4, 167, 0, 4, 3, 100, 60, 42, 180, 0, 28, 28, 27, 79, 29, 16, 8]
abbrev dktX8_nests_3 : List UInt8 := dkwX8_nests_3 ++ dktX8_nests_4
def dkwX8_nests_2 : List UInt8 := [54, 4, 21, 4, 153, 0, 21, 27, 153, 0, 15, 42, 180, 0, 22, 27, 4, 100, 46, 29, 159, 0, 5, 3]
abbrev dktX8_nests_2 : List UInt8 := dkwX8_nests_2 ++ dktX8_nests_3
def dkwX8_nests_1 : List UInt8 := [62, 29, 4, 159, 0, 15, 29, 16, 8, 159, 0, 9, 29, 16, 9, 160, 0, 7, 4, 167, 0, 4, 3]
abbrev dktX8_nests_1 : List UInt8 := dkwX8_nests_1 ++ dktX8_nests_2
def dkwX8_nests_0 : List UInt8 := [3, 60, 42, 3, 181, 0, 160, 3, 61, 28, 42, 180, 0, 9, 4, 46, 162, 0, 201, 42, 28, 182, 0, 110]
abbrev dktX8_nests_0 : List UInt8 := dkwX8_nests_0 ++ dktX8_nests_1
theorem dksX8_nests_0 : cX8_nests.data.toList.drop 0 = dktX8_nests_0 := by decide +kernel
theorem dksX8_nests_1 : cX8_nests.data.toList.drop 24 = dktX8_nests_1 := dk_seg dksX8_nests_0 24 rfl rfl
theorem dksX8_nests_2 : cX8_nests.data.toList.drop 47 = dktX8_nests_2 := dk_seg dksX8_nests_1 23 rfl rfl
theorem dksX8_nests_3 : cX8_nests.data.toList.drop 71 = dktX8_nests_3 := dk_seg dksX8_nests_2 24 rfl rfl
theorem dksX8_nests_4 : cX8_nests.data.toList.drop 95 = dktX8_nests_4 := dk_seg dksX8_nests_3 24 rfl rfl
theorem dksX8_nests_5 : cX8_nests.data.toList.drop 119 = dktX8_nests_5 := dk_seg dksX8_nests_4 24 rfl rfl
theorem dksX8_nests_6 : cX8_nests.data.toList.drop 142 = dktX8_nests_6 := dk_seg dksX8_nests_5 23 rfl rfl
theorem dksX8_nests_7 : cX8_nests.data.toList.drop 166 = dktX8_nests_7 := dk_seg dksX8_nests_6 24 rfl rfl
theorem dksX8_nests_8 : cX8_nests.data.toList.drop 190 = dktX8_nests_8 := dk_seg dksX8_nests_7 24 rfl rfl
theorem dksX8_nests_9 : cX8_nests.data.toList.drop 214 = dktX8_nests_9 := dk_seg dksX8_nests_8 24 rfl rfl
theorem dX8_nests_0 : decode cX8_nests 0 = .ok (.iconst 0, 1) := dk_3 (dk_at dksX8_nests_0 0 rfl rfl)
theorem dX8_nests_1 : decode cX8_nests 1 = .ok (.istore_n 1, 1) := dk_60 (dk_at dksX8_nests_0 1 rfl rfl)
theorem dX8_nests_2 : decode cX8_nests 2 = .ok (.aload_n 0, 1) := dk_42 (dk_at dksX8_nests_0 2 rfl rfl)
theorem dX8_nests_3 : decode cX8_nests 3 = .ok (.iconst 0, 1) := dk_3 (dk_at dksX8_nests_0 3 rfl rfl)
theorem dX8_nests_4 : decode cX8_nests 4 = .ok (.putfield 160, 3) := dk_181 0 160 (dk_at dksX8_nests_0 4 rfl rfl)
theorem dX8_nests_7 : decode cX8_nests 7 = .ok (.iconst 0, 1) := dk_3 (dk_at dksX8_nests_0 7 rfl rfl)
theorem dX8_nests_8 : decode cX8_nests 8 = .ok (.istore_n 2, 1) := dk_61 (dk_at dksX8_nests_0 8 rfl rfl)
theorem dX8_nests_9 : decode cX8_nests 9 = .ok (.iload_n 2, 1) := dk_28 (dk_at dksX8_nests_0 9 rfl rfl)
theorem dX8_nests_10 : decode cX8_nests 10 = .ok (.aload_n 0, 1) := dk_42 (dk_at dksX8_nests_0 10 rfl rfl)
theorem dX8_nests_11 : decode cX8_nests 11 = .ok (.getfield 9, 3) := dk_180 0 9 (dk_at dksX8_nests_0 11 rfl rfl)
theorem dX8_nests_14 : decode cX8_nests 14 = .ok (.iconst 1, 1) := dk_4 (dk_at dksX8_nests_0 14 rfl rfl)
theorem dX8_nests_15 : decode cX8_nests 15 = .ok (.iaload, 1) := dk_46 (dk_at dksX8_nests_0 15 rfl rfl)
theorem dX8_nests_16 : decode cX8_nests 16 = .ok (.if_icmp .ge 201, 3) := dk_162 0 201 (dk_at dksX8_nests_0 16 rfl rfl)
theorem dX8_nests_19 : decode cX8_nests 19 = .ok (.aload_n 0, 1) := dk_42 (dk_at dksX8_nests_0 19 rfl rfl)
theorem dX8_nests_20 : decode cX8_nests 20 = .ok (.iload_n 2, 1) := dk_28 (dk_at dksX8_nests_0 20 rfl rfl)
theorem dX8_nests_21 : decode cX8_nests 21 = .ok (.invokevirtual 110, 3) := dk_182 0 110 (dk_at dksX8_nests_0 21 rfl rfl)
theorem dX8_nests_24 : decode cX8_nests 24 = .ok (.istore_n 3, 1) := dk_62 (dk_at dksX8_nests_1 0 rfl rfl)
theorem dX8_nests_25 : decode cX8_nests 25 = .ok (.iload_n 3, 1) := dk_29 (dk_at dksX8_nests_1 1 rfl rfl)
theorem dX8_nests_26 : decode cX8_nests 26 = .ok (.iconst 1, 1) := dk_4 (dk_at dksX8_nests_1 2 rfl rfl)
theorem dX8_nests_27 : decode cX8_nests 27 = .ok (.if_icmp .eq 15, 3) := dk_159 0 15 (dk_at dksX8_nests_1 3 rfl rfl)
theorem dX8_nests_30 : decode cX8_nests 30 = .ok (.iload_n 3, 1) := dk_29 (dk_at dksX8_nests_1 6 rfl rfl)
theorem dX8_nests_31 : decode cX8_nests 31 = .ok (.bipush 8, 2) := dk_16 8 (dk_at dksX8_nests_1 7 rfl rfl)
theorem dX8_nests_33 : decode cX8_nests 33 = .ok (.if_icmp .eq 9, 3) := dk_159 0 9 (dk_at dksX8_nests_1 9 rfl rfl)
theorem dX8_nests_36 : decode cX8_nests 36 = .ok (.iload_n 3, 1) := dk_29 (dk_at dksX8_nests_1 12 rfl rfl)
theorem dX8_nests_37 : decode cX8_nests 37 = .ok (.bipush 9, 2) := dk_16 9 (dk_at dksX8_nests_1 13 rfl rfl)
theorem dX8_nests_39 : decode cX8_nests 39 = .ok (.if_icmp .ne 7, 3) := dk_160 0 7 (dk_at dksX8_nests_1 15 rfl rfl)
theorem dX8_nests_42 : decode cX8_nests 42 = .ok (.iconst 1, 1) := dk_4 (dk_at dksX8_nests_1 18 rfl rfl)
theorem dX8_nests_43 : decode cX8_nests 43 = .ok (.goto 4, 3) := dk_167 0 4 (dk_at dksX8_nests_1 19 rfl rfl)
theorem dX8_nests_46 : decode cX8_nests 46 = .ok (.iconst 0, 1) := dk_3 (dk_at dksX8_nests_1 22 rfl rfl)
theorem dX8_nests_47 : decode cX8_nests 47 = .ok (.istore 4, 2) := dk_54 4 (dk_at dksX8_nests_2 0 rfl rfl)
theorem dX8_nests_49 : decode cX8_nests 49 = .ok (.iload 4, 2) := dk_21 4 (dk_at dksX8_nests_2 2 rfl rfl)
theorem dX8_nests_51 : decode cX8_nests 51 = .ok (.ifCond .eq 21, 3) := dk_153 0 21 (dk_at dksX8_nests_2 4 rfl rfl)
theorem dX8_nests_54 : decode cX8_nests 54 = .ok (.iload_n 1, 1) := dk_27 (dk_at dksX8_nests_2 7 rfl rfl)
theorem dX8_nests_55 : decode cX8_nests 55 = .ok (.ifCond .eq 15, 3) := dk_153 0 15 (dk_at dksX8_nests_2 8 rfl rfl)
theorem dX8_nests_58 : decode cX8_nests 58 = .ok (.aload_n 0, 1) := dk_42 (dk_at dksX8_nests_2 11 rfl rfl)
theorem dX8_nests_59 : decode cX8_nests 59 = .ok (.getfield 22, 3) := dk_180 0 22 (dk_at dksX8_nests_2 12 rfl rfl)
theorem dX8_nests_62 : decode cX8_nests 62 = .ok (.iload_n 1, 1) := dk_27 (dk_at dksX8_nests_2 15 rfl rfl)
theorem dX8_nests_63 : decode cX8_nests 63 = .ok (.iconst 1, 1) := dk_4 (dk_at dksX8_nests_2 16 rfl rfl)
theorem dX8_nests_64 : decode cX8_nests 64 = .ok (.isub, 1) := dk_100 (dk_at dksX8_nests_2 17 rfl rfl)
theorem dX8_nests_65 : decode cX8_nests 65 = .ok (.iaload, 1) := dk_46 (dk_at dksX8_nests_2 18 rfl rfl)
theorem dX8_nests_66 : decode cX8_nests 66 = .ok (.iload_n 3, 1) := dk_29 (dk_at dksX8_nests_2 19 rfl rfl)
theorem dX8_nests_67 : decode cX8_nests 67 = .ok (.if_icmp .eq 5, 3) := dk_159 0 5 (dk_at dksX8_nests_2 20 rfl rfl)
theorem dX8_nests_70 : decode cX8_nests 70 = .ok (.iconst 0, 1) := dk_3 (dk_at dksX8_nests_2 23 rfl rfl)
theorem dX8_nests_71 : decode cX8_nests 71 = .ok (.ireturn, 1) := dk_172 (dk_at dksX8_nests_3 0 rfl rfl)
theorem dX8_nests_72 : decode cX8_nests 72 = .ok (.iload_n 1, 1) := dk_27 (dk_at dksX8_nests_3 1 rfl rfl)
theorem dX8_nests_73 : decode cX8_nests 73 = .ok (.iload 4, 2) := dk_21 4 (dk_at dksX8_nests_3 2 rfl rfl)
theorem dX8_nests_75 : decode cX8_nests 75 = .ok (.ifCond .eq 7, 3) := dk_153 0 7 (dk_at dksX8_nests_3 4 rfl rfl)
theorem dX8_nests_78 : decode cX8_nests 78 = .ok (.iconst 1, 1) := dk_4 (dk_at dksX8_nests_3 7 rfl rfl)
theorem dX8_nests_79 : decode cX8_nests 79 = .ok (.goto 4, 3) := dk_167 0 4 (dk_at dksX8_nests_3 8 rfl rfl)
theorem dX8_nests_82 : decode cX8_nests 82 = .ok (.iconst 0, 1) := dk_3 (dk_at dksX8_nests_3 11 rfl rfl)
theorem dX8_nests_83 : decode cX8_nests 83 = .ok (.isub, 1) := dk_100 (dk_at dksX8_nests_3 12 rfl rfl)
theorem dX8_nests_84 : decode cX8_nests 84 = .ok (.istore_n 1, 1) := dk_60 (dk_at dksX8_nests_3 13 rfl rfl)
theorem dX8_nests_85 : decode cX8_nests 85 = .ok (.aload_n 0, 1) := dk_42 (dk_at dksX8_nests_3 14 rfl rfl)
theorem dX8_nests_86 : decode cX8_nests 86 = .ok (.getfield 28, 3) := dk_180 0 28 (dk_at dksX8_nests_3 15 rfl rfl)
theorem dX8_nests_89 : decode cX8_nests 89 = .ok (.iload_n 2, 1) := dk_28 (dk_at dksX8_nests_3 18 rfl rfl)
theorem dX8_nests_90 : decode cX8_nests 90 = .ok (.iload_n 1, 1) := dk_27 (dk_at dksX8_nests_3 19 rfl rfl)
theorem dX8_nests_91 : decode cX8_nests 91 = .ok (.iastore, 1) := dk_79 (dk_at dksX8_nests_3 20 rfl rfl)
theorem dX8_nests_92 : decode cX8_nests 92 = .ok (.iload_n 3, 1) := dk_29 (dk_at dksX8_nests_3 21 rfl rfl)
theorem dX8_nests_93 : decode cX8_nests 93 = .ok (.bipush 8, 2) := dk_16 8 (dk_at dksX8_nests_3 22 rfl rfl)
theorem dX8_nests_95 : decode cX8_nests 95 = .ok (.if_icmp .ne 18, 3) := dk_160 0 18 (dk_at dksX8_nests_4 0 rfl rfl)
theorem dX8_nests_98 : decode cX8_nests 98 = .ok (.aload_n 0, 1) := dk_42 (dk_at dksX8_nests_4 3 rfl rfl)
theorem dX8_nests_99 : decode cX8_nests 99 = .ok (.getfield 31, 3) := dk_180 0 31 (dk_at dksX8_nests_4 4 rfl rfl)
theorem dX8_nests_102 : decode cX8_nests 102 = .ok (.aload_n 0, 1) := dk_42 (dk_at dksX8_nests_4 7 rfl rfl)
theorem dX8_nests_103 : decode cX8_nests 103 = .ok (.getfield 25, 3) := dk_180 0 25 (dk_at dksX8_nests_4 8 rfl rfl)
theorem dX8_nests_106 : decode cX8_nests 106 = .ok (.iload_n 1, 1) := dk_27 (dk_at dksX8_nests_4 11 rfl rfl)
theorem dX8_nests_107 : decode cX8_nests 107 = .ok (.iaload, 1) := dk_46 (dk_at dksX8_nests_4 12 rfl rfl)
theorem dX8_nests_108 : decode cX8_nests 108 = .ok (.iload_n 2, 1) := dk_28 (dk_at dksX8_nests_4 13 rfl rfl)
theorem dX8_nests_109 : decode cX8_nests 109 = .ok (.iastore, 1) := dk_79 (dk_at dksX8_nests_4 14 rfl rfl)
theorem dX8_nests_110 : decode cX8_nests 110 = .ok (.goto 21, 3) := dk_167 0 21 (dk_at dksX8_nests_4 15 rfl rfl)
theorem dX8_nests_113 : decode cX8_nests 113 = .ok (.iload_n 3, 1) := dk_29 (dk_at dksX8_nests_4 18 rfl rfl)
theorem dX8_nests_114 : decode cX8_nests 114 = .ok (.bipush 9, 2) := dk_16 9 (dk_at dksX8_nests_4 19 rfl rfl)
theorem dX8_nests_116 : decode cX8_nests 116 = .ok (.if_icmp .ne 15, 3) := dk_160 0 15 (dk_at dksX8_nests_4 21 rfl rfl)
theorem dX8_nests_119 : decode cX8_nests 119 = .ok (.aload_n 0, 1) := dk_42 (dk_at dksX8_nests_5 0 rfl rfl)
theorem dX8_nests_120 : decode cX8_nests 120 = .ok (.getfield 34, 3) := dk_180 0 34 (dk_at dksX8_nests_5 1 rfl rfl)
theorem dX8_nests_123 : decode cX8_nests 123 = .ok (.aload_n 0, 1) := dk_42 (dk_at dksX8_nests_5 4 rfl rfl)
theorem dX8_nests_124 : decode cX8_nests 124 = .ok (.getfield 25, 3) := dk_180 0 25 (dk_at dksX8_nests_5 5 rfl rfl)
theorem dX8_nests_127 : decode cX8_nests 127 = .ok (.iload_n 1, 1) := dk_27 (dk_at dksX8_nests_5 8 rfl rfl)
theorem dX8_nests_128 : decode cX8_nests 128 = .ok (.iaload, 1) := dk_46 (dk_at dksX8_nests_5 9 rfl rfl)
theorem dX8_nests_129 : decode cX8_nests 129 = .ok (.iload_n 2, 1) := dk_28 (dk_at dksX8_nests_5 10 rfl rfl)
theorem dX8_nests_130 : decode cX8_nests 130 = .ok (.iastore, 1) := dk_79 (dk_at dksX8_nests_5 11 rfl rfl)
theorem dX8_nests_131 : decode cX8_nests 131 = .ok (.iload_n 3, 1) := dk_29 (dk_at dksX8_nests_5 12 rfl rfl)
theorem dX8_nests_132 : decode cX8_nests 132 = .ok (.ifCond .eq 15, 3) := dk_153 0 15 (dk_at dksX8_nests_5 13 rfl rfl)
theorem dX8_nests_135 : decode cX8_nests 135 = .ok (.iload_n 3, 1) := dk_29 (dk_at dksX8_nests_5 16 rfl rfl)
theorem dX8_nests_136 : decode cX8_nests 136 = .ok (.bipush 7, 2) := dk_16 7 (dk_at dksX8_nests_5 17 rfl rfl)
theorem dX8_nests_138 : decode cX8_nests 138 = .ok (.if_icmp .eq 9, 3) := dk_159 0 9 (dk_at dksX8_nests_5 19 rfl rfl)
theorem dX8_nests_141 : decode cX8_nests 141 = .ok (.iload_n 3, 1) := dk_29 (dk_at dksX8_nests_5 22 rfl rfl)
theorem dX8_nests_142 : decode cX8_nests 142 = .ok (.bipush 8, 2) := dk_16 8 (dk_at dksX8_nests_6 0 rfl rfl)
theorem dX8_nests_144 : decode cX8_nests 144 = .ok (.if_icmp .ne 67, 3) := dk_160 0 67 (dk_at dksX8_nests_6 2 rfl rfl)
theorem dX8_nests_147 : decode cX8_nests 147 = .ok (.aload_n 0, 1) := dk_42 (dk_at dksX8_nests_6 5 rfl rfl)
theorem dX8_nests_148 : decode cX8_nests 148 = .ok (.getfield 22, 3) := dk_180 0 22 (dk_at dksX8_nests_6 6 rfl rfl)
theorem dX8_nests_151 : decode cX8_nests 151 = .ok (.iload_n 1, 1) := dk_27 (dk_at dksX8_nests_6 9 rfl rfl)
theorem dX8_nests_152 : decode cX8_nests 152 = .ok (.iload_n 3, 1) := dk_29 (dk_at dksX8_nests_6 10 rfl rfl)
theorem dX8_nests_153 : decode cX8_nests 153 = .ok (.ifCond .ne 7, 3) := dk_154 0 7 (dk_at dksX8_nests_6 11 rfl rfl)
theorem dX8_nests_156 : decode cX8_nests 156 = .ok (.iconst 1, 1) := dk_4 (dk_at dksX8_nests_6 14 rfl rfl)
theorem dX8_nests_157 : decode cX8_nests 157 = .ok (.goto 16, 3) := dk_167 0 16 (dk_at dksX8_nests_6 15 rfl rfl)
theorem dX8_nests_160 : decode cX8_nests 160 = .ok (.iload_n 3, 1) := dk_29 (dk_at dksX8_nests_6 18 rfl rfl)
theorem dX8_nests_161 : decode cX8_nests 161 = .ok (.bipush 7, 2) := dk_16 7 (dk_at dksX8_nests_6 19 rfl rfl)
theorem dX8_nests_163 : decode cX8_nests 163 = .ok (.if_icmp .ne 8, 3) := dk_160 0 8 (dk_at dksX8_nests_6 21 rfl rfl)
theorem dX8_nests_166 : decode cX8_nests 166 = .ok (.bipush 8, 2) := dk_16 8 (dk_at dksX8_nests_7 0 rfl rfl)
theorem dX8_nests_168 : decode cX8_nests 168 = .ok (.goto 5, 3) := dk_167 0 5 (dk_at dksX8_nests_7 2 rfl rfl)
theorem dX8_nests_171 : decode cX8_nests 171 = .ok (.bipush 9, 2) := dk_16 9 (dk_at dksX8_nests_7 5 rfl rfl)
theorem dX8_nests_173 : decode cX8_nests 173 = .ok (.iastore, 1) := dk_79 (dk_at dksX8_nests_7 7 rfl rfl)
theorem dX8_nests_174 : decode cX8_nests 174 = .ok (.aload_n 0, 1) := dk_42 (dk_at dksX8_nests_7 8 rfl rfl)
theorem dX8_nests_175 : decode cX8_nests 175 = .ok (.getfield 25, 3) := dk_180 0 25 (dk_at dksX8_nests_7 9 rfl rfl)
theorem dX8_nests_178 : decode cX8_nests 178 = .ok (.iload_n 1, 1) := dk_27 (dk_at dksX8_nests_7 12 rfl rfl)
theorem dX8_nests_179 : decode cX8_nests 179 = .ok (.iload_n 3, 1) := dk_29 (dk_at dksX8_nests_7 13 rfl rfl)
theorem dX8_nests_180 : decode cX8_nests 180 = .ok (.bipush 8, 2) := dk_16 8 (dk_at dksX8_nests_7 14 rfl rfl)
theorem dX8_nests_182 : decode cX8_nests 182 = .ok (.if_icmp .ne 12, 3) := dk_160 0 12 (dk_at dksX8_nests_7 16 rfl rfl)
theorem dX8_nests_185 : decode cX8_nests 185 = .ok (.aload_n 0, 1) := dk_42 (dk_at dksX8_nests_7 19 rfl rfl)
theorem dX8_nests_186 : decode cX8_nests 186 = .ok (.getfield 25, 3) := dk_180 0 25 (dk_at dksX8_nests_7 20 rfl rfl)
theorem dX8_nests_189 : decode cX8_nests 189 = .ok (.iload_n 1, 1) := dk_27 (dk_at dksX8_nests_7 23 rfl rfl)
theorem dX8_nests_190 : decode cX8_nests 190 = .ok (.iaload, 1) := dk_46 (dk_at dksX8_nests_8 0 rfl rfl)
theorem dX8_nests_191 : decode cX8_nests 191 = .ok (.goto 4, 3) := dk_167 0 4 (dk_at dksX8_nests_8 1 rfl rfl)
theorem dX8_nests_194 : decode cX8_nests 194 = .ok (.iload_n 2, 1) := dk_28 (dk_at dksX8_nests_8 4 rfl rfl)
theorem dX8_nests_195 : decode cX8_nests 195 = .ok (.iastore, 1) := dk_79 (dk_at dksX8_nests_8 5 rfl rfl)
theorem dX8_nests_196 : decode cX8_nests 196 = .ok (.iinc 1 1, 3) := dk_132 1 1 (dk_at dksX8_nests_8 6 rfl rfl)
theorem dX8_nests_199 : decode cX8_nests 199 = .ok (.aload_n 0, 1) := dk_42 (dk_at dksX8_nests_8 9 rfl rfl)
theorem dX8_nests_200 : decode cX8_nests 200 = .ok (.aload_n 0, 1) := dk_42 (dk_at dksX8_nests_8 10 rfl rfl)
theorem dX8_nests_201 : decode cX8_nests 201 = .ok (.getfield 160, 3) := dk_180 0 160 (dk_at dksX8_nests_8 11 rfl rfl)
theorem dX8_nests_204 : decode cX8_nests 204 = .ok (.iload_n 1, 1) := dk_27 (dk_at dksX8_nests_8 14 rfl rfl)
theorem dX8_nests_205 : decode cX8_nests 205 = .ok (.invokestatic 163, 3) := dk_184 0 163 (dk_at dksX8_nests_8 15 rfl rfl)
theorem dX8_nests_208 : decode cX8_nests 208 = .ok (.putfield 160, 3) := dk_181 0 160 (dk_at dksX8_nests_8 18 rfl rfl)
theorem dX8_nests_211 : decode cX8_nests 211 = .ok (.iinc 2 1, 3) := dk_132 2 1 (dk_at dksX8_nests_8 21 rfl rfl)
theorem dX8_nests_214 : decode cX8_nests 214 = .ok (.goto (-205), 3) := dk_167 255 51 (dk_at dksX8_nests_9 0 rfl rfl)
theorem dX8_nests_217 : decode cX8_nests 217 = .ok (.iload_n 1, 1) := dk_27 (dk_at dksX8_nests_9 3 rfl rfl)
theorem dX8_nests_218 : decode cX8_nests 218 = .ok (.ifCond .ne 7, 3) := dk_154 0 7 (dk_at dksX8_nests_9 4 rfl rfl)
theorem dX8_nests_221 : decode cX8_nests 221 = .ok (.iconst 1, 1) := dk_4 (dk_at dksX8_nests_9 7 rfl rfl)
theorem dX8_nests_222 : decode cX8_nests 222 = .ok (.goto 4, 3) := dk_167 0 4 (dk_at dksX8_nests_9 8 rfl rfl)
theorem dX8_nests_225 : decode cX8_nests 225 = .ok (.iconst 0, 1) := dk_3 (dk_at dksX8_nests_9 11 rfl rfl)
theorem dX8_nests_226 : decode cX8_nests 226 = .ok (.ireturn, 1) := dk_172 (dk_at dksX8_nests_9 12 rfl rfl)
abbrev cX8_wrong : ByteArray := prog_15_method_52_code
def yX8_wrong : MethodName := ⟨RX8, "wrong", "(I)I"⟩
def dkwX8_wrong_2 : List UInt8 := [160, 0, 10, 42, 180, 0, 179, 167, 0, 7, 42, 180, 0, 182, 172]
abbrev dktX8_wrong_2 : List UInt8 := dkwX8_wrong_2 ++ []
def dkwX8_wrong_1 : List UInt8 := [158, 0, 5, 3, 172, 42, 182, 0, 229, 27, 154, 0, 10, 42, 180, 0, 176, 167, 0, 19, 27, 4]
abbrev dktX8_wrong_1 : List UInt8 := dkwX8_wrong_1 ++ dktX8_wrong_2
def dkwX8_wrong_0 : List UInt8 := [42, 27, 3, 5, 184, 0, 82, 153, 0, 7, 3, 167, 0, 4, 4, 181, 0, 64, 42, 180, 0, 64]
abbrev dktX8_wrong_0 : List UInt8 := dkwX8_wrong_0 ++ dktX8_wrong_1
theorem dksX8_wrong_0 : cX8_wrong.data.toList.drop 0 = dktX8_wrong_0 := by decide +kernel
theorem dksX8_wrong_1 : cX8_wrong.data.toList.drop 22 = dktX8_wrong_1 := dk_seg dksX8_wrong_0 22 rfl rfl
theorem dksX8_wrong_2 : cX8_wrong.data.toList.drop 44 = dktX8_wrong_2 := dk_seg dksX8_wrong_1 22 rfl rfl
theorem dX8_wrong_0 : decode cX8_wrong 0 = .ok (.aload_n 0, 1) := dk_42 (dk_at dksX8_wrong_0 0 rfl rfl)
theorem dX8_wrong_1 : decode cX8_wrong 1 = .ok (.iload_n 1, 1) := dk_27 (dk_at dksX8_wrong_0 1 rfl rfl)
theorem dX8_wrong_2 : decode cX8_wrong 2 = .ok (.iconst 0, 1) := dk_3 (dk_at dksX8_wrong_0 2 rfl rfl)
theorem dX8_wrong_3 : decode cX8_wrong 3 = .ok (.iconst 2, 1) := dk_5 (dk_at dksX8_wrong_0 3 rfl rfl)
theorem dX8_wrong_4 : decode cX8_wrong 4 = .ok (.invokestatic 82, 3) := dk_184 0 82 (dk_at dksX8_wrong_0 4 rfl rfl)
theorem dX8_wrong_7 : decode cX8_wrong 7 = .ok (.ifCond .eq 7, 3) := dk_153 0 7 (dk_at dksX8_wrong_0 7 rfl rfl)
theorem dX8_wrong_10 : decode cX8_wrong 10 = .ok (.iconst 0, 1) := dk_3 (dk_at dksX8_wrong_0 10 rfl rfl)
theorem dX8_wrong_11 : decode cX8_wrong 11 = .ok (.goto 4, 3) := dk_167 0 4 (dk_at dksX8_wrong_0 11 rfl rfl)
theorem dX8_wrong_14 : decode cX8_wrong 14 = .ok (.iconst 1, 1) := dk_4 (dk_at dksX8_wrong_0 14 rfl rfl)
theorem dX8_wrong_15 : decode cX8_wrong 15 = .ok (.putfield 64, 3) := dk_181 0 64 (dk_at dksX8_wrong_0 15 rfl rfl)
theorem dX8_wrong_18 : decode cX8_wrong 18 = .ok (.aload_n 0, 1) := dk_42 (dk_at dksX8_wrong_0 18 rfl rfl)
theorem dX8_wrong_19 : decode cX8_wrong 19 = .ok (.getfield 64, 3) := dk_180 0 64 (dk_at dksX8_wrong_0 19 rfl rfl)
theorem dX8_wrong_22 : decode cX8_wrong 22 = .ok (.ifCond .le 5, 3) := dk_158 0 5 (dk_at dksX8_wrong_1 0 rfl rfl)
theorem dX8_wrong_25 : decode cX8_wrong 25 = .ok (.iconst 0, 1) := dk_3 (dk_at dksX8_wrong_1 3 rfl rfl)
theorem dX8_wrong_26 : decode cX8_wrong 26 = .ok (.ireturn, 1) := dk_172 (dk_at dksX8_wrong_1 4 rfl rfl)
theorem dX8_wrong_27 : decode cX8_wrong 27 = .ok (.aload_n 0, 1) := dk_42 (dk_at dksX8_wrong_1 5 rfl rfl)
theorem dX8_wrong_28 : decode cX8_wrong 28 = .ok (.invokevirtual 229, 3) := dk_182 0 229 (dk_at dksX8_wrong_1 6 rfl rfl)
theorem dX8_wrong_31 : decode cX8_wrong 31 = .ok (.iload_n 1, 1) := dk_27 (dk_at dksX8_wrong_1 9 rfl rfl)
theorem dX8_wrong_32 : decode cX8_wrong 32 = .ok (.ifCond .ne 10, 3) := dk_154 0 10 (dk_at dksX8_wrong_1 10 rfl rfl)
theorem dX8_wrong_35 : decode cX8_wrong 35 = .ok (.aload_n 0, 1) := dk_42 (dk_at dksX8_wrong_1 13 rfl rfl)
theorem dX8_wrong_36 : decode cX8_wrong 36 = .ok (.getfield 176, 3) := dk_180 0 176 (dk_at dksX8_wrong_1 14 rfl rfl)
theorem dX8_wrong_39 : decode cX8_wrong 39 = .ok (.goto 19, 3) := dk_167 0 19 (dk_at dksX8_wrong_1 17 rfl rfl)
theorem dX8_wrong_42 : decode cX8_wrong 42 = .ok (.iload_n 1, 1) := dk_27 (dk_at dksX8_wrong_1 20 rfl rfl)
theorem dX8_wrong_43 : decode cX8_wrong 43 = .ok (.iconst 1, 1) := dk_4 (dk_at dksX8_wrong_1 21 rfl rfl)
theorem dX8_wrong_44 : decode cX8_wrong 44 = .ok (.if_icmp .ne 10, 3) := dk_160 0 10 (dk_at dksX8_wrong_2 0 rfl rfl)
theorem dX8_wrong_47 : decode cX8_wrong 47 = .ok (.aload_n 0, 1) := dk_42 (dk_at dksX8_wrong_2 3 rfl rfl)
theorem dX8_wrong_48 : decode cX8_wrong 48 = .ok (.getfield 179, 3) := dk_180 0 179 (dk_at dksX8_wrong_2 4 rfl rfl)
theorem dX8_wrong_51 : decode cX8_wrong 51 = .ok (.goto 7, 3) := dk_167 0 7 (dk_at dksX8_wrong_2 7 rfl rfl)
theorem dX8_wrong_54 : decode cX8_wrong 54 = .ok (.aload_n 0, 1) := dk_42 (dk_at dksX8_wrong_2 10 rfl rfl)
theorem dX8_wrong_55 : decode cX8_wrong 55 = .ok (.getfield 182, 3) := dk_180 0 182 (dk_at dksX8_wrong_2 11 rfl rfl)
theorem dX8_wrong_58 : decode cX8_wrong 58 = .ok (.ireturn, 1) := dk_172 (dk_at dksX8_wrong_2 14 rfl rfl)
abbrev cX8_looks : ByteArray := prog_15_method_51_code
def yX8_looks : MethodName := ⟨RX8, "looks", "()V"⟩
def dkwX8_looks_0 : List UInt8 := [42, 42, 180, 0, 9, 4, 46, 182, 0, 223, 153, 0, 7, 42, 182, 0, 226, 177]
abbrev dktX8_looks_0 : List UInt8 := dkwX8_looks_0 ++ []
theorem dksX8_looks_0 : cX8_looks.data.toList.drop 0 = dktX8_looks_0 := by decide +kernel
theorem dX8_looks_0 : decode cX8_looks 0 = .ok (.aload_n 0, 1) := dk_42 (dk_at dksX8_looks_0 0 rfl rfl)
theorem dX8_looks_1 : decode cX8_looks 1 = .ok (.aload_n 0, 1) := dk_42 (dk_at dksX8_looks_0 1 rfl rfl)
theorem dX8_looks_2 : decode cX8_looks 2 = .ok (.getfield 9, 3) := dk_180 0 9 (dk_at dksX8_looks_0 2 rfl rfl)
theorem dX8_looks_5 : decode cX8_looks 5 = .ok (.iconst 1, 1) := dk_4 (dk_at dksX8_looks_0 5 rfl rfl)
theorem dX8_looks_6 : decode cX8_looks 6 = .ok (.iaload, 1) := dk_46 (dk_at dksX8_looks_0 6 rfl rfl)
theorem dX8_looks_7 : decode cX8_looks 7 = .ok (.invokevirtual 223, 3) := dk_182 0 223 (dk_at dksX8_looks_0 7 rfl rfl)
theorem dX8_looks_10 : decode cX8_looks 10 = .ok (.ifCond .eq 7, 3) := dk_153 0 7 (dk_at dksX8_looks_0 10 rfl rfl)
theorem dX8_looks_13 : decode cX8_looks 13 = .ok (.aload_n 0, 1) := dk_42 (dk_at dksX8_looks_0 13 rfl rfl)
theorem dX8_looks_14 : decode cX8_looks 14 = .ok (.invokevirtual 226, 3) := dk_182 0 226 (dk_at dksX8_looks_0 14 rfl rfl)
theorem dX8_looks_17 : decode cX8_looks 17 = .ok (.return_, 1) := dk_177 (dk_at dksX8_looks_0 17 rfl rfl)
abbrev cX8_goesTo : ByteArray := prog_15_method_49_code
def yX8_goesTo : MethodName := ⟨RX8, "goesTo", "(I)Z"⟩
def dkwX8_goesTo_1 : List UInt8 := [132, 3, 1, 167, 255, 237, 28, 172]
abbrev dktX8_goesTo_1 : List UInt8 := dkwX8_goesTo_1 ++ []
def dkwX8_goesTo_0 : List UInt8 := [42, 182, 0, 216, 4, 61, 3, 62, 29, 27, 162, 0, 20, 28, 153, 0, 16, 42, 29, 3, 182, 0, 219, 61]
abbrev dktX8_goesTo_0 : List UInt8 := dkwX8_goesTo_0 ++ dktX8_goesTo_1
theorem dksX8_goesTo_0 : cX8_goesTo.data.toList.drop 0 = dktX8_goesTo_0 := by decide +kernel
theorem dksX8_goesTo_1 : cX8_goesTo.data.toList.drop 24 = dktX8_goesTo_1 := dk_seg dksX8_goesTo_0 24 rfl rfl
theorem dX8_goesTo_0 : decode cX8_goesTo 0 = .ok (.aload_n 0, 1) := dk_42 (dk_at dksX8_goesTo_0 0 rfl rfl)
theorem dX8_goesTo_1 : decode cX8_goesTo 1 = .ok (.invokevirtual 216, 3) := dk_182 0 216 (dk_at dksX8_goesTo_0 1 rfl rfl)
theorem dX8_goesTo_4 : decode cX8_goesTo 4 = .ok (.iconst 1, 1) := dk_4 (dk_at dksX8_goesTo_0 4 rfl rfl)
theorem dX8_goesTo_5 : decode cX8_goesTo 5 = .ok (.istore_n 2, 1) := dk_61 (dk_at dksX8_goesTo_0 5 rfl rfl)
theorem dX8_goesTo_6 : decode cX8_goesTo 6 = .ok (.iconst 0, 1) := dk_3 (dk_at dksX8_goesTo_0 6 rfl rfl)
theorem dX8_goesTo_7 : decode cX8_goesTo 7 = .ok (.istore_n 3, 1) := dk_62 (dk_at dksX8_goesTo_0 7 rfl rfl)
theorem dX8_goesTo_8 : decode cX8_goesTo 8 = .ok (.iload_n 3, 1) := dk_29 (dk_at dksX8_goesTo_0 8 rfl rfl)
theorem dX8_goesTo_9 : decode cX8_goesTo 9 = .ok (.iload_n 1, 1) := dk_27 (dk_at dksX8_goesTo_0 9 rfl rfl)
theorem dX8_goesTo_10 : decode cX8_goesTo 10 = .ok (.if_icmp .ge 20, 3) := dk_162 0 20 (dk_at dksX8_goesTo_0 10 rfl rfl)
theorem dX8_goesTo_13 : decode cX8_goesTo 13 = .ok (.iload_n 2, 1) := dk_28 (dk_at dksX8_goesTo_0 13 rfl rfl)
theorem dX8_goesTo_14 : decode cX8_goesTo 14 = .ok (.ifCond .eq 16, 3) := dk_153 0 16 (dk_at dksX8_goesTo_0 14 rfl rfl)
theorem dX8_goesTo_17 : decode cX8_goesTo 17 = .ok (.aload_n 0, 1) := dk_42 (dk_at dksX8_goesTo_0 17 rfl rfl)
theorem dX8_goesTo_18 : decode cX8_goesTo 18 = .ok (.iload_n 3, 1) := dk_29 (dk_at dksX8_goesTo_0 18 rfl rfl)
theorem dX8_goesTo_19 : decode cX8_goesTo 19 = .ok (.iconst 0, 1) := dk_3 (dk_at dksX8_goesTo_0 19 rfl rfl)
theorem dX8_goesTo_20 : decode cX8_goesTo 20 = .ok (.invokevirtual 219, 3) := dk_182 0 219 (dk_at dksX8_goesTo_0 20 rfl rfl)
theorem dX8_goesTo_23 : decode cX8_goesTo 23 = .ok (.istore_n 2, 1) := dk_61 (dk_at dksX8_goesTo_0 23 rfl rfl)
theorem dX8_goesTo_24 : decode cX8_goesTo 24 = .ok (.iinc 3 1, 3) := dk_132 3 1 (dk_at dksX8_goesTo_1 0 rfl rfl)
theorem dX8_goesTo_27 : decode cX8_goesTo 27 = .ok (.goto (-19), 3) := dk_167 255 237 (dk_at dksX8_goesTo_1 3 rfl rfl)
theorem dX8_goesTo_30 : decode cX8_goesTo 30 = .ok (.iload_n 2, 1) := dk_28 (dk_at dksX8_goesTo_1 6 rfl rfl)
theorem dX8_goesTo_31 : decode cX8_goesTo 31 = .ok (.ireturn, 1) := dk_172 (dk_at dksX8_goesTo_1 7 rfl rfl)
abbrev cX8_begins : ByteArray := prog_15_method_38_code
def yX8_begins : MethodName := ⟨RX8, "begins", "()V"⟩
def dkwX8_begins_2 : List UInt8 := [181, 0, 176, 42, 2, 181, 0, 179, 42, 2, 181, 0, 182, 177]
abbrev dktX8_begins_2 : List UInt8 := dkwX8_begins_2 ++ []
def dkwX8_begins_1 : List UInt8 := [162, 0, 7, 2, 167, 0, 4, 3, 79, 132, 1, 1, 167, 255, 224, 42, 3, 181, 0, 173, 42, 3]
abbrev dktX8_begins_1 : List UInt8 := dkwX8_begins_1 ++ dktX8_begins_2
def dkwX8_begins_0 : List UInt8 := [3, 60, 27, 16, 31, 162, 0, 32, 42, 180, 0, 37, 27, 27, 16, 16, 161, 0, 13, 27, 16, 21]
abbrev dktX8_begins_0 : List UInt8 := dkwX8_begins_0 ++ dktX8_begins_1
theorem dksX8_begins_0 : cX8_begins.data.toList.drop 0 = dktX8_begins_0 := by decide +kernel
theorem dksX8_begins_1 : cX8_begins.data.toList.drop 22 = dktX8_begins_1 := dk_seg dksX8_begins_0 22 rfl rfl
theorem dksX8_begins_2 : cX8_begins.data.toList.drop 44 = dktX8_begins_2 := dk_seg dksX8_begins_1 22 rfl rfl
theorem dX8_begins_0 : decode cX8_begins 0 = .ok (.iconst 0, 1) := dk_3 (dk_at dksX8_begins_0 0 rfl rfl)
theorem dX8_begins_1 : decode cX8_begins 1 = .ok (.istore_n 1, 1) := dk_60 (dk_at dksX8_begins_0 1 rfl rfl)
theorem dX8_begins_2 : decode cX8_begins 2 = .ok (.iload_n 1, 1) := dk_27 (dk_at dksX8_begins_0 2 rfl rfl)
theorem dX8_begins_3 : decode cX8_begins 3 = .ok (.bipush 31, 2) := dk_16 31 (dk_at dksX8_begins_0 3 rfl rfl)
theorem dX8_begins_5 : decode cX8_begins 5 = .ok (.if_icmp .ge 32, 3) := dk_162 0 32 (dk_at dksX8_begins_0 5 rfl rfl)
theorem dX8_begins_8 : decode cX8_begins 8 = .ok (.aload_n 0, 1) := dk_42 (dk_at dksX8_begins_0 8 rfl rfl)
theorem dX8_begins_9 : decode cX8_begins 9 = .ok (.getfield 37, 3) := dk_180 0 37 (dk_at dksX8_begins_0 9 rfl rfl)
theorem dX8_begins_12 : decode cX8_begins 12 = .ok (.iload_n 1, 1) := dk_27 (dk_at dksX8_begins_0 12 rfl rfl)
theorem dX8_begins_13 : decode cX8_begins 13 = .ok (.iload_n 1, 1) := dk_27 (dk_at dksX8_begins_0 13 rfl rfl)
theorem dX8_begins_14 : decode cX8_begins 14 = .ok (.bipush 16, 2) := dk_16 16 (dk_at dksX8_begins_0 14 rfl rfl)
theorem dX8_begins_16 : decode cX8_begins 16 = .ok (.if_icmp .lt 13, 3) := dk_161 0 13 (dk_at dksX8_begins_0 16 rfl rfl)
theorem dX8_begins_19 : decode cX8_begins 19 = .ok (.iload_n 1, 1) := dk_27 (dk_at dksX8_begins_0 19 rfl rfl)
theorem dX8_begins_20 : decode cX8_begins 20 = .ok (.bipush 21, 2) := dk_16 21 (dk_at dksX8_begins_0 20 rfl rfl)
theorem dX8_begins_22 : decode cX8_begins 22 = .ok (.if_icmp .ge 7, 3) := dk_162 0 7 (dk_at dksX8_begins_1 0 rfl rfl)
theorem dX8_begins_25 : decode cX8_begins 25 = .ok (.iconst (-1), 1) := dk_2 (dk_at dksX8_begins_1 3 rfl rfl)
theorem dX8_begins_26 : decode cX8_begins 26 = .ok (.goto 4, 3) := dk_167 0 4 (dk_at dksX8_begins_1 4 rfl rfl)
theorem dX8_begins_29 : decode cX8_begins 29 = .ok (.iconst 0, 1) := dk_3 (dk_at dksX8_begins_1 7 rfl rfl)
theorem dX8_begins_30 : decode cX8_begins 30 = .ok (.iastore, 1) := dk_79 (dk_at dksX8_begins_1 8 rfl rfl)
theorem dX8_begins_31 : decode cX8_begins 31 = .ok (.iinc 1 1, 3) := dk_132 1 1 (dk_at dksX8_begins_1 9 rfl rfl)
theorem dX8_begins_34 : decode cX8_begins 34 = .ok (.goto (-32), 3) := dk_167 255 224 (dk_at dksX8_begins_1 12 rfl rfl)
theorem dX8_begins_37 : decode cX8_begins 37 = .ok (.aload_n 0, 1) := dk_42 (dk_at dksX8_begins_1 15 rfl rfl)
theorem dX8_begins_38 : decode cX8_begins 38 = .ok (.iconst 0, 1) := dk_3 (dk_at dksX8_begins_1 16 rfl rfl)
theorem dX8_begins_39 : decode cX8_begins 39 = .ok (.putfield 173, 3) := dk_181 0 173 (dk_at dksX8_begins_1 17 rfl rfl)
theorem dX8_begins_42 : decode cX8_begins 42 = .ok (.aload_n 0, 1) := dk_42 (dk_at dksX8_begins_1 20 rfl rfl)
theorem dX8_begins_43 : decode cX8_begins 43 = .ok (.iconst 0, 1) := dk_3 (dk_at dksX8_begins_1 21 rfl rfl)
theorem dX8_begins_44 : decode cX8_begins 44 = .ok (.putfield 176, 3) := dk_181 0 176 (dk_at dksX8_begins_2 0 rfl rfl)
theorem dX8_begins_47 : decode cX8_begins 47 = .ok (.aload_n 0, 1) := dk_42 (dk_at dksX8_begins_2 3 rfl rfl)
theorem dX8_begins_48 : decode cX8_begins 48 = .ok (.iconst (-1), 1) := dk_2 (dk_at dksX8_begins_2 4 rfl rfl)
theorem dX8_begins_49 : decode cX8_begins 49 = .ok (.putfield 179, 3) := dk_181 0 179 (dk_at dksX8_begins_2 5 rfl rfl)
theorem dX8_begins_52 : decode cX8_begins 52 = .ok (.aload_n 0, 1) := dk_42 (dk_at dksX8_begins_2 8 rfl rfl)
theorem dX8_begins_53 : decode cX8_begins 53 = .ok (.iconst (-1), 1) := dk_2 (dk_at dksX8_begins_2 9 rfl rfl)
theorem dX8_begins_54 : decode cX8_begins 54 = .ok (.putfield 182, 3) := dk_181 0 182 (dk_at dksX8_begins_2 10 rfl rfl)
theorem dX8_begins_57 : decode cX8_begins 57 = .ok (.return_, 1) := dk_177 (dk_at dksX8_begins_2 13 rfl rfl)
abbrev cX8_goes : ByteArray := prog_15_method_48_code
def yX8_goes : MethodName := ⟨RX8, "goes", "(IZ)Z"⟩
def dkwX8_goes_12 : List UInt8 := [42, 27, 182, 0, 213, 153, 0, 7, 4, 167, 0, 4, 3, 172]
abbrev dktX8_goes_12 : List UInt8 := dkwX8_goes_12 ++ []
def dkwX8_goes_11 : List UInt8 := [184, 0, 67, 42, 16, 9, 27, 182, 0, 195, 4, 172, 42, 27, 182, 0, 199, 153, 0, 19, 28, 154, 0, 11]
abbrev dktX8_goes_11 : List UInt8 := dkwX8_goes_11 ++ dktX8_goes_12
def dkwX8_goes_10 : List UInt8 := [184, 0, 67, 42, 180, 0, 40, 16, 31, 42, 180, 0, 173, 4, 96, 104, 42, 180, 0, 37, 3, 16, 31]
abbrev dktX8_goes_10 : List UInt8 := dkwX8_goes_10 ++ dktX8_goes_11
def dkwX8_goes_9 : List UInt8 := [28, 154, 0, 49, 42, 180, 0, 37, 3, 42, 180, 0, 43, 16, 31, 42, 180, 0, 173, 4, 96, 104, 16, 31]
abbrev dktX8_goes_9 : List UInt8 := dkwX8_goes_9 ++ dktX8_goes_10
def dkwX8_goes_8 : List UInt8 := [167, 0, 4, 3, 172, 42, 16, 8, 27, 182, 0, 195, 4, 172, 42, 27, 182, 0, 199, 154, 0, 5, 3, 172]
abbrev dktX8_goes_8 : List UInt8 := dkwX8_goes_8 ++ dktX8_goes_9
def dkwX8_goes_7 : List UInt8 := [182, 0, 133, 96, 46, 156, 0, 17, 42, 8, 27, 42, 27, 182, 0, 133, 182, 0, 188, 153, 0, 7, 4]
abbrev dktX8_goes_7 : List UInt8 := dkwX8_goes_7 ++ dktX8_goes_8
def dkwX8_goes_6 : List UInt8 := [29, 8, 160, 0, 7, 4, 167, 0, 4, 3, 182, 0, 209, 172, 42, 180, 0, 37, 16, 16, 42, 27]
abbrev dktX8_goes_6 : List UInt8 := dkwX8_goes_6 ++ dktX8_goes_7
def dkwX8_goes_5 : List UInt8 := [172, 42, 27, 42, 27, 182, 0, 133, 182, 0, 206, 172, 42, 27, 42, 27, 182, 0, 133, 42, 27, 182, 0, 113]
abbrev dktX8_goes_5 : List UInt8 := dkwX8_goes_5 ++ dktX8_goes_6
def dkwX8_goes_4 : List UInt8 := [42, 4, 27, 182, 0, 195, 4, 172, 42, 27, 182, 0, 199, 172, 42, 27, 42, 27, 182, 0, 133, 182, 0, 202]
abbrev dktX8_goes_4 : List UInt8 := dkwX8_goes_4 ++ dktX8_goes_5
def dkwX8_goes_3 : List UInt8 := [170, 0, 0, 0, 0, 226, 0, 0, 0, 0, 0, 0, 0, 8, 0, 0, 0, 50, 0, 0, 0, 58, 0, 0, 0, 64, 0, 0, 0, 75, 0, 0, 0, 86, 0, 0, 0, 86, 0, 0, 0, 112, 0, 0, 0, 148, 0, 0, 0, 157]
abbrev dktX8_goes_3 : List UInt8 := dkwX8_goes_3 ++ dktX8_goes_4
def dkwX8_goes_2 : List UInt8 := [180, 0, 173, 4, 100, 46, 29, 159, 0, 11, 42, 4, 27, 29, 182, 0, 188, 172, 29]
abbrev dktX8_goes_2 : List UInt8 := dkwX8_goes_2 ++ dktX8_goes_3
def dkwX8_goes_1 : List UInt8 := [167, 0, 4, 3, 54, 4, 21, 4, 153, 0, 33, 42, 180, 0, 173, 153, 0, 18, 42, 180, 0, 22, 42]
abbrev dktX8_goes_1 : List UInt8 := dkwX8_goes_1 ++ dktX8_goes_2
def dkwX8_goes_0 : List UInt8 := [42, 27, 182, 0, 110, 62, 29, 4, 159, 0, 15, 29, 16, 8, 159, 0, 9, 29, 16, 9, 160, 0, 7, 4]
abbrev dktX8_goes_0 : List UInt8 := dkwX8_goes_0 ++ dktX8_goes_1
theorem dksX8_goes_0 : cX8_goes.data.toList.drop 0 = dktX8_goes_0 := by decide +kernel
theorem dksX8_goes_1 : cX8_goes.data.toList.drop 24 = dktX8_goes_1 := dk_seg dksX8_goes_0 24 rfl rfl
theorem dksX8_goes_2 : cX8_goes.data.toList.drop 47 = dktX8_goes_2 := dk_seg dksX8_goes_1 23 rfl rfl
theorem dksX8_goes_3 : cX8_goes.data.toList.drop 66 = dktX8_goes_3 := dk_seg dksX8_goes_2 19 rfl rfl
theorem dksX8_goes_4 : cX8_goes.data.toList.drop 116 = dktX8_goes_4 := dk_seg dksX8_goes_3 50 rfl rfl
theorem dksX8_goes_5 : cX8_goes.data.toList.drop 140 = dktX8_goes_5 := dk_seg dksX8_goes_4 24 rfl rfl
theorem dksX8_goes_6 : cX8_goes.data.toList.drop 164 = dktX8_goes_6 := dk_seg dksX8_goes_5 24 rfl rfl
theorem dksX8_goes_7 : cX8_goes.data.toList.drop 186 = dktX8_goes_7 := dk_seg dksX8_goes_6 22 rfl rfl
theorem dksX8_goes_8 : cX8_goes.data.toList.drop 209 = dktX8_goes_8 := dk_seg dksX8_goes_7 23 rfl rfl
theorem dksX8_goes_9 : cX8_goes.data.toList.drop 233 = dktX8_goes_9 := dk_seg dksX8_goes_8 24 rfl rfl
theorem dksX8_goes_10 : cX8_goes.data.toList.drop 257 = dktX8_goes_10 := dk_seg dksX8_goes_9 24 rfl rfl
theorem dksX8_goes_11 : cX8_goes.data.toList.drop 280 = dktX8_goes_11 := dk_seg dksX8_goes_10 23 rfl rfl
theorem dksX8_goes_12 : cX8_goes.data.toList.drop 304 = dktX8_goes_12 := dk_seg dksX8_goes_11 24 rfl rfl
theorem dX8_goes_0 : decode cX8_goes 0 = .ok (.aload_n 0, 1) := dk_42 (dk_at dksX8_goes_0 0 rfl rfl)
theorem dX8_goes_1 : decode cX8_goes 1 = .ok (.iload_n 1, 1) := dk_27 (dk_at dksX8_goes_0 1 rfl rfl)
theorem dX8_goes_2 : decode cX8_goes 2 = .ok (.invokevirtual 110, 3) := dk_182 0 110 (dk_at dksX8_goes_0 2 rfl rfl)
theorem dX8_goes_5 : decode cX8_goes 5 = .ok (.istore_n 3, 1) := dk_62 (dk_at dksX8_goes_0 5 rfl rfl)
theorem dX8_goes_6 : decode cX8_goes 6 = .ok (.iload_n 3, 1) := dk_29 (dk_at dksX8_goes_0 6 rfl rfl)
theorem dX8_goes_7 : decode cX8_goes 7 = .ok (.iconst 1, 1) := dk_4 (dk_at dksX8_goes_0 7 rfl rfl)
theorem dX8_goes_8 : decode cX8_goes 8 = .ok (.if_icmp .eq 15, 3) := dk_159 0 15 (dk_at dksX8_goes_0 8 rfl rfl)
theorem dX8_goes_11 : decode cX8_goes 11 = .ok (.iload_n 3, 1) := dk_29 (dk_at dksX8_goes_0 11 rfl rfl)
theorem dX8_goes_12 : decode cX8_goes 12 = .ok (.bipush 8, 2) := dk_16 8 (dk_at dksX8_goes_0 12 rfl rfl)
theorem dX8_goes_14 : decode cX8_goes 14 = .ok (.if_icmp .eq 9, 3) := dk_159 0 9 (dk_at dksX8_goes_0 14 rfl rfl)
theorem dX8_goes_17 : decode cX8_goes 17 = .ok (.iload_n 3, 1) := dk_29 (dk_at dksX8_goes_0 17 rfl rfl)
theorem dX8_goes_18 : decode cX8_goes 18 = .ok (.bipush 9, 2) := dk_16 9 (dk_at dksX8_goes_0 18 rfl rfl)
theorem dX8_goes_20 : decode cX8_goes 20 = .ok (.if_icmp .ne 7, 3) := dk_160 0 7 (dk_at dksX8_goes_0 20 rfl rfl)
theorem dX8_goes_23 : decode cX8_goes 23 = .ok (.iconst 1, 1) := dk_4 (dk_at dksX8_goes_0 23 rfl rfl)
theorem dX8_goes_24 : decode cX8_goes 24 = .ok (.goto 4, 3) := dk_167 0 4 (dk_at dksX8_goes_1 0 rfl rfl)
theorem dX8_goes_27 : decode cX8_goes 27 = .ok (.iconst 0, 1) := dk_3 (dk_at dksX8_goes_1 3 rfl rfl)
theorem dX8_goes_28 : decode cX8_goes 28 = .ok (.istore 4, 2) := dk_54 4 (dk_at dksX8_goes_1 4 rfl rfl)
theorem dX8_goes_30 : decode cX8_goes 30 = .ok (.iload 4, 2) := dk_21 4 (dk_at dksX8_goes_1 6 rfl rfl)
theorem dX8_goes_32 : decode cX8_goes 32 = .ok (.ifCond .eq 33, 3) := dk_153 0 33 (dk_at dksX8_goes_1 8 rfl rfl)
theorem dX8_goes_35 : decode cX8_goes 35 = .ok (.aload_n 0, 1) := dk_42 (dk_at dksX8_goes_1 11 rfl rfl)
theorem dX8_goes_36 : decode cX8_goes 36 = .ok (.getfield 173, 3) := dk_180 0 173 (dk_at dksX8_goes_1 12 rfl rfl)
theorem dX8_goes_39 : decode cX8_goes 39 = .ok (.ifCond .eq 18, 3) := dk_153 0 18 (dk_at dksX8_goes_1 15 rfl rfl)
theorem dX8_goes_42 : decode cX8_goes 42 = .ok (.aload_n 0, 1) := dk_42 (dk_at dksX8_goes_1 18 rfl rfl)
theorem dX8_goes_43 : decode cX8_goes 43 = .ok (.getfield 22, 3) := dk_180 0 22 (dk_at dksX8_goes_1 19 rfl rfl)
theorem dX8_goes_46 : decode cX8_goes 46 = .ok (.aload_n 0, 1) := dk_42 (dk_at dksX8_goes_1 22 rfl rfl)
theorem dX8_goes_47 : decode cX8_goes 47 = .ok (.getfield 173, 3) := dk_180 0 173 (dk_at dksX8_goes_2 0 rfl rfl)
theorem dX8_goes_50 : decode cX8_goes 50 = .ok (.iconst 1, 1) := dk_4 (dk_at dksX8_goes_2 3 rfl rfl)
theorem dX8_goes_51 : decode cX8_goes 51 = .ok (.isub, 1) := dk_100 (dk_at dksX8_goes_2 4 rfl rfl)
theorem dX8_goes_52 : decode cX8_goes 52 = .ok (.iaload, 1) := dk_46 (dk_at dksX8_goes_2 5 rfl rfl)
theorem dX8_goes_53 : decode cX8_goes 53 = .ok (.iload_n 3, 1) := dk_29 (dk_at dksX8_goes_2 6 rfl rfl)
theorem dX8_goes_54 : decode cX8_goes 54 = .ok (.if_icmp .eq 11, 3) := dk_159 0 11 (dk_at dksX8_goes_2 7 rfl rfl)
theorem dX8_goes_57 : decode cX8_goes 57 = .ok (.aload_n 0, 1) := dk_42 (dk_at dksX8_goes_2 10 rfl rfl)
theorem dX8_goes_58 : decode cX8_goes 58 = .ok (.iconst 1, 1) := dk_4 (dk_at dksX8_goes_2 11 rfl rfl)
theorem dX8_goes_59 : decode cX8_goes 59 = .ok (.iload_n 1, 1) := dk_27 (dk_at dksX8_goes_2 12 rfl rfl)
theorem dX8_goes_60 : decode cX8_goes 60 = .ok (.iload_n 3, 1) := dk_29 (dk_at dksX8_goes_2 13 rfl rfl)
theorem dX8_goes_61 : decode cX8_goes 61 = .ok (.invokevirtual 188, 3) := dk_182 0 188 (dk_at dksX8_goes_2 14 rfl rfl)
theorem dX8_goes_64 : decode cX8_goes 64 = .ok (.ireturn, 1) := dk_172 (dk_at dksX8_goes_2 17 rfl rfl)
theorem dX8_goes_65 : decode cX8_goes 65 = .ok (.iload_n 3, 1) := dk_29 (dk_at dksX8_goes_2 18 rfl rfl)
theorem dX8_goes_66 : decode cX8_goes 66 = .ok (.tableswitch 226 0 8 #[50, 58, 64, 75, 86, 86, 112, 148, 157], 50) := by decide +kernel
theorem dX8_goes_116 : decode cX8_goes 116 = .ok (.aload_n 0, 1) := dk_42 (dk_at dksX8_goes_4 0 rfl rfl)
theorem dX8_goes_117 : decode cX8_goes 117 = .ok (.iconst 1, 1) := dk_4 (dk_at dksX8_goes_4 1 rfl rfl)
theorem dX8_goes_118 : decode cX8_goes 118 = .ok (.iload_n 1, 1) := dk_27 (dk_at dksX8_goes_4 2 rfl rfl)
theorem dX8_goes_119 : decode cX8_goes 119 = .ok (.invokevirtual 195, 3) := dk_182 0 195 (dk_at dksX8_goes_4 3 rfl rfl)
theorem dX8_goes_122 : decode cX8_goes 122 = .ok (.iconst 1, 1) := dk_4 (dk_at dksX8_goes_4 6 rfl rfl)
theorem dX8_goes_123 : decode cX8_goes 123 = .ok (.ireturn, 1) := dk_172 (dk_at dksX8_goes_4 7 rfl rfl)
theorem dX8_goes_124 : decode cX8_goes 124 = .ok (.aload_n 0, 1) := dk_42 (dk_at dksX8_goes_4 8 rfl rfl)
theorem dX8_goes_125 : decode cX8_goes 125 = .ok (.iload_n 1, 1) := dk_27 (dk_at dksX8_goes_4 9 rfl rfl)
theorem dX8_goes_126 : decode cX8_goes 126 = .ok (.invokevirtual 199, 3) := dk_182 0 199 (dk_at dksX8_goes_4 10 rfl rfl)
theorem dX8_goes_129 : decode cX8_goes 129 = .ok (.ireturn, 1) := dk_172 (dk_at dksX8_goes_4 13 rfl rfl)
theorem dX8_goes_130 : decode cX8_goes 130 = .ok (.aload_n 0, 1) := dk_42 (dk_at dksX8_goes_4 14 rfl rfl)
theorem dX8_goes_131 : decode cX8_goes 131 = .ok (.iload_n 1, 1) := dk_27 (dk_at dksX8_goes_4 15 rfl rfl)
theorem dX8_goes_132 : decode cX8_goes 132 = .ok (.aload_n 0, 1) := dk_42 (dk_at dksX8_goes_4 16 rfl rfl)
theorem dX8_goes_133 : decode cX8_goes 133 = .ok (.iload_n 1, 1) := dk_27 (dk_at dksX8_goes_4 17 rfl rfl)
theorem dX8_goes_134 : decode cX8_goes 134 = .ok (.invokevirtual 133, 3) := dk_182 0 133 (dk_at dksX8_goes_4 18 rfl rfl)
theorem dX8_goes_137 : decode cX8_goes 137 = .ok (.invokevirtual 202, 3) := dk_182 0 202 (dk_at dksX8_goes_4 21 rfl rfl)
theorem dX8_goes_140 : decode cX8_goes 140 = .ok (.ireturn, 1) := dk_172 (dk_at dksX8_goes_5 0 rfl rfl)
theorem dX8_goes_141 : decode cX8_goes 141 = .ok (.aload_n 0, 1) := dk_42 (dk_at dksX8_goes_5 1 rfl rfl)
theorem dX8_goes_142 : decode cX8_goes 142 = .ok (.iload_n 1, 1) := dk_27 (dk_at dksX8_goes_5 2 rfl rfl)
theorem dX8_goes_143 : decode cX8_goes 143 = .ok (.aload_n 0, 1) := dk_42 (dk_at dksX8_goes_5 3 rfl rfl)
theorem dX8_goes_144 : decode cX8_goes 144 = .ok (.iload_n 1, 1) := dk_27 (dk_at dksX8_goes_5 4 rfl rfl)
theorem dX8_goes_145 : decode cX8_goes 145 = .ok (.invokevirtual 133, 3) := dk_182 0 133 (dk_at dksX8_goes_5 5 rfl rfl)
theorem dX8_goes_148 : decode cX8_goes 148 = .ok (.invokevirtual 206, 3) := dk_182 0 206 (dk_at dksX8_goes_5 8 rfl rfl)
theorem dX8_goes_151 : decode cX8_goes 151 = .ok (.ireturn, 1) := dk_172 (dk_at dksX8_goes_5 11 rfl rfl)
theorem dX8_goes_152 : decode cX8_goes 152 = .ok (.aload_n 0, 1) := dk_42 (dk_at dksX8_goes_5 12 rfl rfl)
theorem dX8_goes_153 : decode cX8_goes 153 = .ok (.iload_n 1, 1) := dk_27 (dk_at dksX8_goes_5 13 rfl rfl)
theorem dX8_goes_154 : decode cX8_goes 154 = .ok (.aload_n 0, 1) := dk_42 (dk_at dksX8_goes_5 14 rfl rfl)
theorem dX8_goes_155 : decode cX8_goes 155 = .ok (.iload_n 1, 1) := dk_27 (dk_at dksX8_goes_5 15 rfl rfl)
theorem dX8_goes_156 : decode cX8_goes 156 = .ok (.invokevirtual 133, 3) := dk_182 0 133 (dk_at dksX8_goes_5 16 rfl rfl)
theorem dX8_goes_159 : decode cX8_goes 159 = .ok (.aload_n 0, 1) := dk_42 (dk_at dksX8_goes_5 19 rfl rfl)
theorem dX8_goes_160 : decode cX8_goes 160 = .ok (.iload_n 1, 1) := dk_27 (dk_at dksX8_goes_5 20 rfl rfl)
theorem dX8_goes_161 : decode cX8_goes 161 = .ok (.invokevirtual 113, 3) := dk_182 0 113 (dk_at dksX8_goes_5 21 rfl rfl)
theorem dX8_goes_164 : decode cX8_goes 164 = .ok (.iload_n 3, 1) := dk_29 (dk_at dksX8_goes_6 0 rfl rfl)
theorem dX8_goes_165 : decode cX8_goes 165 = .ok (.iconst 5, 1) := dk_8 (dk_at dksX8_goes_6 1 rfl rfl)
theorem dX8_goes_166 : decode cX8_goes 166 = .ok (.if_icmp .ne 7, 3) := dk_160 0 7 (dk_at dksX8_goes_6 2 rfl rfl)
theorem dX8_goes_169 : decode cX8_goes 169 = .ok (.iconst 1, 1) := dk_4 (dk_at dksX8_goes_6 5 rfl rfl)
theorem dX8_goes_170 : decode cX8_goes 170 = .ok (.goto 4, 3) := dk_167 0 4 (dk_at dksX8_goes_6 6 rfl rfl)
theorem dX8_goes_173 : decode cX8_goes 173 = .ok (.iconst 0, 1) := dk_3 (dk_at dksX8_goes_6 9 rfl rfl)
theorem dX8_goes_174 : decode cX8_goes 174 = .ok (.invokevirtual 209, 3) := dk_182 0 209 (dk_at dksX8_goes_6 10 rfl rfl)
theorem dX8_goes_177 : decode cX8_goes 177 = .ok (.ireturn, 1) := dk_172 (dk_at dksX8_goes_6 13 rfl rfl)
theorem dX8_goes_178 : decode cX8_goes 178 = .ok (.aload_n 0, 1) := dk_42 (dk_at dksX8_goes_6 14 rfl rfl)
theorem dX8_goes_179 : decode cX8_goes 179 = .ok (.getfield 37, 3) := dk_180 0 37 (dk_at dksX8_goes_6 15 rfl rfl)
theorem dX8_goes_182 : decode cX8_goes 182 = .ok (.bipush 16, 2) := dk_16 16 (dk_at dksX8_goes_6 18 rfl rfl)
theorem dX8_goes_184 : decode cX8_goes 184 = .ok (.aload_n 0, 1) := dk_42 (dk_at dksX8_goes_6 20 rfl rfl)
theorem dX8_goes_185 : decode cX8_goes 185 = .ok (.iload_n 1, 1) := dk_27 (dk_at dksX8_goes_6 21 rfl rfl)
theorem dX8_goes_186 : decode cX8_goes 186 = .ok (.invokevirtual 133, 3) := dk_182 0 133 (dk_at dksX8_goes_7 0 rfl rfl)
theorem dX8_goes_189 : decode cX8_goes 189 = .ok (.iadd, 1) := dk_96 (dk_at dksX8_goes_7 3 rfl rfl)
theorem dX8_goes_190 : decode cX8_goes 190 = .ok (.iaload, 1) := dk_46 (dk_at dksX8_goes_7 4 rfl rfl)
theorem dX8_goes_191 : decode cX8_goes 191 = .ok (.ifCond .ge 17, 3) := dk_156 0 17 (dk_at dksX8_goes_7 5 rfl rfl)
theorem dX8_goes_194 : decode cX8_goes 194 = .ok (.aload_n 0, 1) := dk_42 (dk_at dksX8_goes_7 8 rfl rfl)
theorem dX8_goes_195 : decode cX8_goes 195 = .ok (.iconst 5, 1) := dk_8 (dk_at dksX8_goes_7 9 rfl rfl)
theorem dX8_goes_196 : decode cX8_goes 196 = .ok (.iload_n 1, 1) := dk_27 (dk_at dksX8_goes_7 10 rfl rfl)
theorem dX8_goes_197 : decode cX8_goes 197 = .ok (.aload_n 0, 1) := dk_42 (dk_at dksX8_goes_7 11 rfl rfl)
theorem dX8_goes_198 : decode cX8_goes 198 = .ok (.iload_n 1, 1) := dk_27 (dk_at dksX8_goes_7 12 rfl rfl)
theorem dX8_goes_199 : decode cX8_goes 199 = .ok (.invokevirtual 133, 3) := dk_182 0 133 (dk_at dksX8_goes_7 13 rfl rfl)
theorem dX8_goes_202 : decode cX8_goes 202 = .ok (.invokevirtual 188, 3) := dk_182 0 188 (dk_at dksX8_goes_7 16 rfl rfl)
theorem dX8_goes_205 : decode cX8_goes 205 = .ok (.ifCond .eq 7, 3) := dk_153 0 7 (dk_at dksX8_goes_7 19 rfl rfl)
theorem dX8_goes_208 : decode cX8_goes 208 = .ok (.iconst 1, 1) := dk_4 (dk_at dksX8_goes_7 22 rfl rfl)
theorem dX8_goes_209 : decode cX8_goes 209 = .ok (.goto 4, 3) := dk_167 0 4 (dk_at dksX8_goes_8 0 rfl rfl)
theorem dX8_goes_212 : decode cX8_goes 212 = .ok (.iconst 0, 1) := dk_3 (dk_at dksX8_goes_8 3 rfl rfl)
theorem dX8_goes_213 : decode cX8_goes 213 = .ok (.ireturn, 1) := dk_172 (dk_at dksX8_goes_8 4 rfl rfl)
theorem dX8_goes_214 : decode cX8_goes 214 = .ok (.aload_n 0, 1) := dk_42 (dk_at dksX8_goes_8 5 rfl rfl)
theorem dX8_goes_215 : decode cX8_goes 215 = .ok (.bipush 8, 2) := dk_16 8 (dk_at dksX8_goes_8 6 rfl rfl)
theorem dX8_goes_217 : decode cX8_goes 217 = .ok (.iload_n 1, 1) := dk_27 (dk_at dksX8_goes_8 8 rfl rfl)
theorem dX8_goes_218 : decode cX8_goes 218 = .ok (.invokevirtual 195, 3) := dk_182 0 195 (dk_at dksX8_goes_8 9 rfl rfl)
theorem dX8_goes_221 : decode cX8_goes 221 = .ok (.iconst 1, 1) := dk_4 (dk_at dksX8_goes_8 12 rfl rfl)
theorem dX8_goes_222 : decode cX8_goes 222 = .ok (.ireturn, 1) := dk_172 (dk_at dksX8_goes_8 13 rfl rfl)
theorem dX8_goes_223 : decode cX8_goes 223 = .ok (.aload_n 0, 1) := dk_42 (dk_at dksX8_goes_8 14 rfl rfl)
theorem dX8_goes_224 : decode cX8_goes 224 = .ok (.iload_n 1, 1) := dk_27 (dk_at dksX8_goes_8 15 rfl rfl)
theorem dX8_goes_225 : decode cX8_goes 225 = .ok (.invokevirtual 199, 3) := dk_182 0 199 (dk_at dksX8_goes_8 16 rfl rfl)
theorem dX8_goes_228 : decode cX8_goes 228 = .ok (.ifCond .ne 5, 3) := dk_154 0 5 (dk_at dksX8_goes_8 19 rfl rfl)
theorem dX8_goes_231 : decode cX8_goes 231 = .ok (.iconst 0, 1) := dk_3 (dk_at dksX8_goes_8 22 rfl rfl)
theorem dX8_goes_232 : decode cX8_goes 232 = .ok (.ireturn, 1) := dk_172 (dk_at dksX8_goes_8 23 rfl rfl)
theorem dX8_goes_233 : decode cX8_goes 233 = .ok (.iload_n 2, 1) := dk_28 (dk_at dksX8_goes_9 0 rfl rfl)
theorem dX8_goes_234 : decode cX8_goes 234 = .ok (.ifCond .ne 49, 3) := dk_154 0 49 (dk_at dksX8_goes_9 1 rfl rfl)
theorem dX8_goes_237 : decode cX8_goes 237 = .ok (.aload_n 0, 1) := dk_42 (dk_at dksX8_goes_9 4 rfl rfl)
theorem dX8_goes_238 : decode cX8_goes 238 = .ok (.getfield 37, 3) := dk_180 0 37 (dk_at dksX8_goes_9 5 rfl rfl)
theorem dX8_goes_241 : decode cX8_goes 241 = .ok (.iconst 0, 1) := dk_3 (dk_at dksX8_goes_9 8 rfl rfl)
theorem dX8_goes_242 : decode cX8_goes 242 = .ok (.aload_n 0, 1) := dk_42 (dk_at dksX8_goes_9 9 rfl rfl)
theorem dX8_goes_243 : decode cX8_goes 243 = .ok (.getfield 43, 3) := dk_180 0 43 (dk_at dksX8_goes_9 10 rfl rfl)
theorem dX8_goes_246 : decode cX8_goes 246 = .ok (.bipush 31, 2) := dk_16 31 (dk_at dksX8_goes_9 13 rfl rfl)
theorem dX8_goes_248 : decode cX8_goes 248 = .ok (.aload_n 0, 1) := dk_42 (dk_at dksX8_goes_9 15 rfl rfl)
theorem dX8_goes_249 : decode cX8_goes 249 = .ok (.getfield 173, 3) := dk_180 0 173 (dk_at dksX8_goes_9 16 rfl rfl)
theorem dX8_goes_252 : decode cX8_goes 252 = .ok (.iconst 1, 1) := dk_4 (dk_at dksX8_goes_9 19 rfl rfl)
theorem dX8_goes_253 : decode cX8_goes 253 = .ok (.iadd, 1) := dk_96 (dk_at dksX8_goes_9 20 rfl rfl)
theorem dX8_goes_254 : decode cX8_goes 254 = .ok (.imul, 1) := dk_104 (dk_at dksX8_goes_9 21 rfl rfl)
theorem dX8_goes_255 : decode cX8_goes 255 = .ok (.bipush 31, 2) := dk_16 31 (dk_at dksX8_goes_9 22 rfl rfl)
theorem dX8_goes_257 : decode cX8_goes 257 = .ok (.invokestatic 67, 3) := dk_184 0 67 (dk_at dksX8_goes_10 0 rfl rfl)
theorem dX8_goes_260 : decode cX8_goes 260 = .ok (.aload_n 0, 1) := dk_42 (dk_at dksX8_goes_10 3 rfl rfl)
theorem dX8_goes_261 : decode cX8_goes 261 = .ok (.getfield 40, 3) := dk_180 0 40 (dk_at dksX8_goes_10 4 rfl rfl)
theorem dX8_goes_264 : decode cX8_goes 264 = .ok (.bipush 31, 2) := dk_16 31 (dk_at dksX8_goes_10 7 rfl rfl)
theorem dX8_goes_266 : decode cX8_goes 266 = .ok (.aload_n 0, 1) := dk_42 (dk_at dksX8_goes_10 9 rfl rfl)
theorem dX8_goes_267 : decode cX8_goes 267 = .ok (.getfield 173, 3) := dk_180 0 173 (dk_at dksX8_goes_10 10 rfl rfl)
theorem dX8_goes_270 : decode cX8_goes 270 = .ok (.iconst 1, 1) := dk_4 (dk_at dksX8_goes_10 13 rfl rfl)
theorem dX8_goes_271 : decode cX8_goes 271 = .ok (.iadd, 1) := dk_96 (dk_at dksX8_goes_10 14 rfl rfl)
theorem dX8_goes_272 : decode cX8_goes 272 = .ok (.imul, 1) := dk_104 (dk_at dksX8_goes_10 15 rfl rfl)
theorem dX8_goes_273 : decode cX8_goes 273 = .ok (.aload_n 0, 1) := dk_42 (dk_at dksX8_goes_10 16 rfl rfl)
theorem dX8_goes_274 : decode cX8_goes 274 = .ok (.getfield 37, 3) := dk_180 0 37 (dk_at dksX8_goes_10 17 rfl rfl)
theorem dX8_goes_277 : decode cX8_goes 277 = .ok (.iconst 0, 1) := dk_3 (dk_at dksX8_goes_10 20 rfl rfl)
theorem dX8_goes_278 : decode cX8_goes 278 = .ok (.bipush 31, 2) := dk_16 31 (dk_at dksX8_goes_10 21 rfl rfl)
theorem dX8_goes_280 : decode cX8_goes 280 = .ok (.invokestatic 67, 3) := dk_184 0 67 (dk_at dksX8_goes_11 0 rfl rfl)
theorem dX8_goes_283 : decode cX8_goes 283 = .ok (.aload_n 0, 1) := dk_42 (dk_at dksX8_goes_11 3 rfl rfl)
theorem dX8_goes_284 : decode cX8_goes 284 = .ok (.bipush 9, 2) := dk_16 9 (dk_at dksX8_goes_11 4 rfl rfl)
theorem dX8_goes_286 : decode cX8_goes 286 = .ok (.iload_n 1, 1) := dk_27 (dk_at dksX8_goes_11 6 rfl rfl)
theorem dX8_goes_287 : decode cX8_goes 287 = .ok (.invokevirtual 195, 3) := dk_182 0 195 (dk_at dksX8_goes_11 7 rfl rfl)
theorem dX8_goes_290 : decode cX8_goes 290 = .ok (.iconst 1, 1) := dk_4 (dk_at dksX8_goes_11 10 rfl rfl)
theorem dX8_goes_291 : decode cX8_goes 291 = .ok (.ireturn, 1) := dk_172 (dk_at dksX8_goes_11 11 rfl rfl)
theorem dX8_goes_292 : decode cX8_goes 292 = .ok (.aload_n 0, 1) := dk_42 (dk_at dksX8_goes_11 12 rfl rfl)
theorem dX8_goes_293 : decode cX8_goes 293 = .ok (.iload_n 1, 1) := dk_27 (dk_at dksX8_goes_11 13 rfl rfl)
theorem dX8_goes_294 : decode cX8_goes 294 = .ok (.invokevirtual 199, 3) := dk_182 0 199 (dk_at dksX8_goes_11 14 rfl rfl)
theorem dX8_goes_297 : decode cX8_goes 297 = .ok (.ifCond .eq 19, 3) := dk_153 0 19 (dk_at dksX8_goes_11 17 rfl rfl)
theorem dX8_goes_300 : decode cX8_goes 300 = .ok (.iload_n 2, 1) := dk_28 (dk_at dksX8_goes_11 20 rfl rfl)
theorem dX8_goes_301 : decode cX8_goes 301 = .ok (.ifCond .ne 11, 3) := dk_154 0 11 (dk_at dksX8_goes_11 21 rfl rfl)
theorem dX8_goes_304 : decode cX8_goes 304 = .ok (.aload_n 0, 1) := dk_42 (dk_at dksX8_goes_12 0 rfl rfl)
theorem dX8_goes_305 : decode cX8_goes 305 = .ok (.iload_n 1, 1) := dk_27 (dk_at dksX8_goes_12 1 rfl rfl)
theorem dX8_goes_306 : decode cX8_goes 306 = .ok (.invokevirtual 213, 3) := dk_182 0 213 (dk_at dksX8_goes_12 2 rfl rfl)
theorem dX8_goes_309 : decode cX8_goes 309 = .ok (.ifCond .eq 7, 3) := dk_153 0 7 (dk_at dksX8_goes_12 5 rfl rfl)
theorem dX8_goes_312 : decode cX8_goes 312 = .ok (.iconst 1, 1) := dk_4 (dk_at dksX8_goes_12 8 rfl rfl)
theorem dX8_goes_313 : decode cX8_goes 313 = .ok (.goto 4, 3) := dk_167 0 4 (dk_at dksX8_goes_12 9 rfl rfl)
theorem dX8_goes_316 : decode cX8_goes 316 = .ok (.iconst 0, 1) := dk_3 (dk_at dksX8_goes_12 12 rfl rfl)
theorem dX8_goes_317 : decode cX8_goes 317 = .ok (.ireturn, 1) := dk_172 (dk_at dksX8_goes_12 13 rfl rfl)
abbrev cX8_errs : ByteArray := prog_15_method_39_code
def yX8_errs : MethodName := ⟨RX8, "errs", "(III)Z"⟩
def dkwX8_errs_0 : List UInt8 := [42, 27, 181, 0, 176, 42, 28, 181, 0, 179, 42, 29, 181, 0, 182, 3, 172]
abbrev dktX8_errs_0 : List UInt8 := dkwX8_errs_0 ++ []
theorem dksX8_errs_0 : cX8_errs.data.toList.drop 0 = dktX8_errs_0 := by decide +kernel
theorem dX8_errs_0 : decode cX8_errs 0 = .ok (.aload_n 0, 1) := dk_42 (dk_at dksX8_errs_0 0 rfl rfl)
theorem dX8_errs_1 : decode cX8_errs 1 = .ok (.iload_n 1, 1) := dk_27 (dk_at dksX8_errs_0 1 rfl rfl)
theorem dX8_errs_2 : decode cX8_errs 2 = .ok (.putfield 176, 3) := dk_181 0 176 (dk_at dksX8_errs_0 2 rfl rfl)
theorem dX8_errs_5 : decode cX8_errs 5 = .ok (.aload_n 0, 1) := dk_42 (dk_at dksX8_errs_0 5 rfl rfl)
theorem dX8_errs_6 : decode cX8_errs 6 = .ok (.iload_n 2, 1) := dk_28 (dk_at dksX8_errs_0 6 rfl rfl)
theorem dX8_errs_7 : decode cX8_errs 7 = .ok (.putfield 179, 3) := dk_181 0 179 (dk_at dksX8_errs_0 7 rfl rfl)
theorem dX8_errs_10 : decode cX8_errs 10 = .ok (.aload_n 0, 1) := dk_42 (dk_at dksX8_errs_0 10 rfl rfl)
theorem dX8_errs_11 : decode cX8_errs 11 = .ok (.iload_n 3, 1) := dk_29 (dk_at dksX8_errs_0 11 rfl rfl)
theorem dX8_errs_12 : decode cX8_errs 12 = .ok (.putfield 182, 3) := dk_181 0 182 (dk_at dksX8_errs_0 12 rfl rfl)
theorem dX8_errs_15 : decode cX8_errs 15 = .ok (.iconst 0, 1) := dk_3 (dk_at dksX8_errs_0 15 rfl rfl)
theorem dX8_errs_16 : decode cX8_errs 16 = .ok (.ireturn, 1) := dk_172 (dk_at dksX8_errs_0 16 rfl rfl)
abbrev cX8_opens : ByteArray := prog_15_method_42_code
def yX8_opens : MethodName := ⟨RX8, "opens", "(II)V"⟩
def dkwX8_opens_2 : List UInt8 := [167, 0, 4, 3, 184, 0, 67, 177]
abbrev dktX8_opens_2 : List UInt8 := dkwX8_opens_2 ++ []
def dkwX8_opens_1 : List UInt8 := [180, 0, 37, 3, 42, 180, 0, 40, 16, 31, 42, 180, 0, 173, 104, 27, 16, 8, 160, 0, 8, 16, 31]
abbrev dktX8_opens_1 : List UInt8 := dkwX8_opens_1 ++ dktX8_opens_2
def dkwX8_opens_0 : List UInt8 := [42, 89, 180, 0, 173, 4, 96, 181, 0, 173, 42, 180, 0, 22, 42, 180, 0, 173, 4, 100, 27, 79, 42]
abbrev dktX8_opens_0 : List UInt8 := dkwX8_opens_0 ++ dktX8_opens_1
theorem dksX8_opens_0 : cX8_opens.data.toList.drop 0 = dktX8_opens_0 := by decide +kernel
theorem dksX8_opens_1 : cX8_opens.data.toList.drop 23 = dktX8_opens_1 := dk_seg dksX8_opens_0 23 rfl rfl
theorem dksX8_opens_2 : cX8_opens.data.toList.drop 46 = dktX8_opens_2 := dk_seg dksX8_opens_1 23 rfl rfl
theorem dX8_opens_0 : decode cX8_opens 0 = .ok (.aload_n 0, 1) := dk_42 (dk_at dksX8_opens_0 0 rfl rfl)
theorem dX8_opens_1 : decode cX8_opens 1 = .ok (.dup, 1) := dk_89 (dk_at dksX8_opens_0 1 rfl rfl)
theorem dX8_opens_2 : decode cX8_opens 2 = .ok (.getfield 173, 3) := dk_180 0 173 (dk_at dksX8_opens_0 2 rfl rfl)
theorem dX8_opens_5 : decode cX8_opens 5 = .ok (.iconst 1, 1) := dk_4 (dk_at dksX8_opens_0 5 rfl rfl)
theorem dX8_opens_6 : decode cX8_opens 6 = .ok (.iadd, 1) := dk_96 (dk_at dksX8_opens_0 6 rfl rfl)
theorem dX8_opens_7 : decode cX8_opens 7 = .ok (.putfield 173, 3) := dk_181 0 173 (dk_at dksX8_opens_0 7 rfl rfl)
theorem dX8_opens_10 : decode cX8_opens 10 = .ok (.aload_n 0, 1) := dk_42 (dk_at dksX8_opens_0 10 rfl rfl)
theorem dX8_opens_11 : decode cX8_opens 11 = .ok (.getfield 22, 3) := dk_180 0 22 (dk_at dksX8_opens_0 11 rfl rfl)
theorem dX8_opens_14 : decode cX8_opens 14 = .ok (.aload_n 0, 1) := dk_42 (dk_at dksX8_opens_0 14 rfl rfl)
theorem dX8_opens_15 : decode cX8_opens 15 = .ok (.getfield 173, 3) := dk_180 0 173 (dk_at dksX8_opens_0 15 rfl rfl)
theorem dX8_opens_18 : decode cX8_opens 18 = .ok (.iconst 1, 1) := dk_4 (dk_at dksX8_opens_0 18 rfl rfl)
theorem dX8_opens_19 : decode cX8_opens 19 = .ok (.isub, 1) := dk_100 (dk_at dksX8_opens_0 19 rfl rfl)
theorem dX8_opens_20 : decode cX8_opens 20 = .ok (.iload_n 1, 1) := dk_27 (dk_at dksX8_opens_0 20 rfl rfl)
theorem dX8_opens_21 : decode cX8_opens 21 = .ok (.iastore, 1) := dk_79 (dk_at dksX8_opens_0 21 rfl rfl)
theorem dX8_opens_22 : decode cX8_opens 22 = .ok (.aload_n 0, 1) := dk_42 (dk_at dksX8_opens_0 22 rfl rfl)
theorem dX8_opens_23 : decode cX8_opens 23 = .ok (.getfield 37, 3) := dk_180 0 37 (dk_at dksX8_opens_1 0 rfl rfl)
theorem dX8_opens_26 : decode cX8_opens 26 = .ok (.iconst 0, 1) := dk_3 (dk_at dksX8_opens_1 3 rfl rfl)
theorem dX8_opens_27 : decode cX8_opens 27 = .ok (.aload_n 0, 1) := dk_42 (dk_at dksX8_opens_1 4 rfl rfl)
theorem dX8_opens_28 : decode cX8_opens 28 = .ok (.getfield 40, 3) := dk_180 0 40 (dk_at dksX8_opens_1 5 rfl rfl)
theorem dX8_opens_31 : decode cX8_opens 31 = .ok (.bipush 31, 2) := dk_16 31 (dk_at dksX8_opens_1 8 rfl rfl)
theorem dX8_opens_33 : decode cX8_opens 33 = .ok (.aload_n 0, 1) := dk_42 (dk_at dksX8_opens_1 10 rfl rfl)
theorem dX8_opens_34 : decode cX8_opens 34 = .ok (.getfield 173, 3) := dk_180 0 173 (dk_at dksX8_opens_1 11 rfl rfl)
theorem dX8_opens_37 : decode cX8_opens 37 = .ok (.imul, 1) := dk_104 (dk_at dksX8_opens_1 14 rfl rfl)
theorem dX8_opens_38 : decode cX8_opens 38 = .ok (.iload_n 1, 1) := dk_27 (dk_at dksX8_opens_1 15 rfl rfl)
theorem dX8_opens_39 : decode cX8_opens 39 = .ok (.bipush 8, 2) := dk_16 8 (dk_at dksX8_opens_1 16 rfl rfl)
theorem dX8_opens_41 : decode cX8_opens 41 = .ok (.if_icmp .ne 8, 3) := dk_160 0 8 (dk_at dksX8_opens_1 18 rfl rfl)
theorem dX8_opens_44 : decode cX8_opens 44 = .ok (.bipush 31, 2) := dk_16 31 (dk_at dksX8_opens_1 21 rfl rfl)
theorem dX8_opens_46 : decode cX8_opens 46 = .ok (.goto 4, 3) := dk_167 0 4 (dk_at dksX8_opens_2 0 rfl rfl)
theorem dX8_opens_49 : decode cX8_opens 49 = .ok (.iconst 0, 1) := dk_3 (dk_at dksX8_opens_2 3 rfl rfl)
theorem dX8_opens_50 : decode cX8_opens 50 = .ok (.invokestatic 67, 3) := dk_184 0 67 (dk_at dksX8_opens_2 4 rfl rfl)
theorem dX8_opens_53 : decode cX8_opens 53 = .ok (.return_, 1) := dk_177 (dk_at dksX8_opens_2 7 rfl rfl)
abbrev cX8_ended : ByteArray := prog_15_method_41_code
def yX8_ended : MethodName := ⟨RX8, "ended", "(I)Z"⟩
def dkwX8_ended_5 : List UInt8 := [132, 3, 1, 167, 255, 210, 42, 89, 180, 0, 173, 4, 100, 181, 0, 173, 4, 172]
abbrev dktX8_ended_5 : List UInt8 := dkwX8_ended_5 ++ []
def dkwX8_ended_4 : List UInt8 := [29, 96, 46, 42, 180, 0, 173, 160, 0, 7, 2, 167, 0, 12, 42, 180, 0, 37, 16, 16, 29, 96, 46, 79]
abbrev dktX8_ended_4 : List UInt8 := dkwX8_ended_4 ++ dktX8_ended_5
def dkwX8_ended_3 : List UInt8 := [167, 255, 211, 3, 62, 29, 8, 162, 0, 47, 42, 180, 0, 37, 16, 16, 29, 96, 42, 180, 0, 37, 16, 26]
abbrev dktX8_ended_3 : List UInt8 := dkwX8_ended_3 ++ dktX8_ended_4
def dkwX8_ended_2 : List UInt8 := [180, 0, 173, 160, 0, 7, 3, 167, 0, 11, 42, 180, 0, 37, 3, 29, 96, 46, 79, 132, 3, 1]
abbrev dktX8_ended_2 : List UInt8 := dkwX8_ended_2 ++ dktX8_ended_3
def dkwX8_ended_1 : List UInt8 := [29, 16, 8, 162, 0, 45, 42, 180, 0, 37, 3, 29, 96, 42, 180, 0, 37, 16, 8, 29, 96, 46, 42]
abbrev dktX8_ended_1 : List UInt8 := dkwX8_ended_1 ++ dktX8_ended_2
def dkwX8_ended_0 : List UInt8 := [42, 42, 180, 0, 173, 182, 0, 185, 61, 28, 155, 0, 12, 42, 16, 7, 27, 28, 182, 0, 188, 172, 3, 62]
abbrev dktX8_ended_0 : List UInt8 := dkwX8_ended_0 ++ dktX8_ended_1
theorem dksX8_ended_0 : cX8_ended.data.toList.drop 0 = dktX8_ended_0 := by decide +kernel
theorem dksX8_ended_1 : cX8_ended.data.toList.drop 24 = dktX8_ended_1 := dk_seg dksX8_ended_0 24 rfl rfl
theorem dksX8_ended_2 : cX8_ended.data.toList.drop 47 = dktX8_ended_2 := dk_seg dksX8_ended_1 23 rfl rfl
theorem dksX8_ended_3 : cX8_ended.data.toList.drop 69 = dktX8_ended_3 := dk_seg dksX8_ended_2 22 rfl rfl
theorem dksX8_ended_4 : cX8_ended.data.toList.drop 93 = dktX8_ended_4 := dk_seg dksX8_ended_3 24 rfl rfl
theorem dksX8_ended_5 : cX8_ended.data.toList.drop 117 = dktX8_ended_5 := dk_seg dksX8_ended_4 24 rfl rfl
theorem dX8_ended_0 : decode cX8_ended 0 = .ok (.aload_n 0, 1) := dk_42 (dk_at dksX8_ended_0 0 rfl rfl)
theorem dX8_ended_1 : decode cX8_ended 1 = .ok (.aload_n 0, 1) := dk_42 (dk_at dksX8_ended_0 1 rfl rfl)
theorem dX8_ended_2 : decode cX8_ended 2 = .ok (.getfield 173, 3) := dk_180 0 173 (dk_at dksX8_ended_0 2 rfl rfl)
theorem dX8_ended_5 : decode cX8_ended 5 = .ok (.invokevirtual 185, 3) := dk_182 0 185 (dk_at dksX8_ended_0 5 rfl rfl)
theorem dX8_ended_8 : decode cX8_ended 8 = .ok (.istore_n 2, 1) := dk_61 (dk_at dksX8_ended_0 8 rfl rfl)
theorem dX8_ended_9 : decode cX8_ended 9 = .ok (.iload_n 2, 1) := dk_28 (dk_at dksX8_ended_0 9 rfl rfl)
theorem dX8_ended_10 : decode cX8_ended 10 = .ok (.ifCond .lt 12, 3) := dk_155 0 12 (dk_at dksX8_ended_0 10 rfl rfl)
theorem dX8_ended_13 : decode cX8_ended 13 = .ok (.aload_n 0, 1) := dk_42 (dk_at dksX8_ended_0 13 rfl rfl)
theorem dX8_ended_14 : decode cX8_ended 14 = .ok (.bipush 7, 2) := dk_16 7 (dk_at dksX8_ended_0 14 rfl rfl)
theorem dX8_ended_16 : decode cX8_ended 16 = .ok (.iload_n 1, 1) := dk_27 (dk_at dksX8_ended_0 16 rfl rfl)
theorem dX8_ended_17 : decode cX8_ended 17 = .ok (.iload_n 2, 1) := dk_28 (dk_at dksX8_ended_0 17 rfl rfl)
theorem dX8_ended_18 : decode cX8_ended 18 = .ok (.invokevirtual 188, 3) := dk_182 0 188 (dk_at dksX8_ended_0 18 rfl rfl)
theorem dX8_ended_21 : decode cX8_ended 21 = .ok (.ireturn, 1) := dk_172 (dk_at dksX8_ended_0 21 rfl rfl)
theorem dX8_ended_22 : decode cX8_ended 22 = .ok (.iconst 0, 1) := dk_3 (dk_at dksX8_ended_0 22 rfl rfl)
theorem dX8_ended_23 : decode cX8_ended 23 = .ok (.istore_n 3, 1) := dk_62 (dk_at dksX8_ended_0 23 rfl rfl)
theorem dX8_ended_24 : decode cX8_ended 24 = .ok (.iload_n 3, 1) := dk_29 (dk_at dksX8_ended_1 0 rfl rfl)
theorem dX8_ended_25 : decode cX8_ended 25 = .ok (.bipush 8, 2) := dk_16 8 (dk_at dksX8_ended_1 1 rfl rfl)
theorem dX8_ended_27 : decode cX8_ended 27 = .ok (.if_icmp .ge 45, 3) := dk_162 0 45 (dk_at dksX8_ended_1 3 rfl rfl)
theorem dX8_ended_30 : decode cX8_ended 30 = .ok (.aload_n 0, 1) := dk_42 (dk_at dksX8_ended_1 6 rfl rfl)
theorem dX8_ended_31 : decode cX8_ended 31 = .ok (.getfield 37, 3) := dk_180 0 37 (dk_at dksX8_ended_1 7 rfl rfl)
theorem dX8_ended_34 : decode cX8_ended 34 = .ok (.iconst 0, 1) := dk_3 (dk_at dksX8_ended_1 10 rfl rfl)
theorem dX8_ended_35 : decode cX8_ended 35 = .ok (.iload_n 3, 1) := dk_29 (dk_at dksX8_ended_1 11 rfl rfl)
theorem dX8_ended_36 : decode cX8_ended 36 = .ok (.iadd, 1) := dk_96 (dk_at dksX8_ended_1 12 rfl rfl)
theorem dX8_ended_37 : decode cX8_ended 37 = .ok (.aload_n 0, 1) := dk_42 (dk_at dksX8_ended_1 13 rfl rfl)
theorem dX8_ended_38 : decode cX8_ended 38 = .ok (.getfield 37, 3) := dk_180 0 37 (dk_at dksX8_ended_1 14 rfl rfl)
theorem dX8_ended_41 : decode cX8_ended 41 = .ok (.bipush 8, 2) := dk_16 8 (dk_at dksX8_ended_1 17 rfl rfl)
theorem dX8_ended_43 : decode cX8_ended 43 = .ok (.iload_n 3, 1) := dk_29 (dk_at dksX8_ended_1 19 rfl rfl)
theorem dX8_ended_44 : decode cX8_ended 44 = .ok (.iadd, 1) := dk_96 (dk_at dksX8_ended_1 20 rfl rfl)
theorem dX8_ended_45 : decode cX8_ended 45 = .ok (.iaload, 1) := dk_46 (dk_at dksX8_ended_1 21 rfl rfl)
theorem dX8_ended_46 : decode cX8_ended 46 = .ok (.aload_n 0, 1) := dk_42 (dk_at dksX8_ended_1 22 rfl rfl)
theorem dX8_ended_47 : decode cX8_ended 47 = .ok (.getfield 173, 3) := dk_180 0 173 (dk_at dksX8_ended_2 0 rfl rfl)
theorem dX8_ended_50 : decode cX8_ended 50 = .ok (.if_icmp .ne 7, 3) := dk_160 0 7 (dk_at dksX8_ended_2 3 rfl rfl)
theorem dX8_ended_53 : decode cX8_ended 53 = .ok (.iconst 0, 1) := dk_3 (dk_at dksX8_ended_2 6 rfl rfl)
theorem dX8_ended_54 : decode cX8_ended 54 = .ok (.goto 11, 3) := dk_167 0 11 (dk_at dksX8_ended_2 7 rfl rfl)
theorem dX8_ended_57 : decode cX8_ended 57 = .ok (.aload_n 0, 1) := dk_42 (dk_at dksX8_ended_2 10 rfl rfl)
theorem dX8_ended_58 : decode cX8_ended 58 = .ok (.getfield 37, 3) := dk_180 0 37 (dk_at dksX8_ended_2 11 rfl rfl)
theorem dX8_ended_61 : decode cX8_ended 61 = .ok (.iconst 0, 1) := dk_3 (dk_at dksX8_ended_2 14 rfl rfl)
theorem dX8_ended_62 : decode cX8_ended 62 = .ok (.iload_n 3, 1) := dk_29 (dk_at dksX8_ended_2 15 rfl rfl)
theorem dX8_ended_63 : decode cX8_ended 63 = .ok (.iadd, 1) := dk_96 (dk_at dksX8_ended_2 16 rfl rfl)
theorem dX8_ended_64 : decode cX8_ended 64 = .ok (.iaload, 1) := dk_46 (dk_at dksX8_ended_2 17 rfl rfl)
theorem dX8_ended_65 : decode cX8_ended 65 = .ok (.iastore, 1) := dk_79 (dk_at dksX8_ended_2 18 rfl rfl)
theorem dX8_ended_66 : decode cX8_ended 66 = .ok (.iinc 3 1, 3) := dk_132 3 1 (dk_at dksX8_ended_2 19 rfl rfl)
theorem dX8_ended_69 : decode cX8_ended 69 = .ok (.goto (-45), 3) := dk_167 255 211 (dk_at dksX8_ended_3 0 rfl rfl)
theorem dX8_ended_72 : decode cX8_ended 72 = .ok (.iconst 0, 1) := dk_3 (dk_at dksX8_ended_3 3 rfl rfl)
theorem dX8_ended_73 : decode cX8_ended 73 = .ok (.istore_n 3, 1) := dk_62 (dk_at dksX8_ended_3 4 rfl rfl)
theorem dX8_ended_74 : decode cX8_ended 74 = .ok (.iload_n 3, 1) := dk_29 (dk_at dksX8_ended_3 5 rfl rfl)
theorem dX8_ended_75 : decode cX8_ended 75 = .ok (.iconst 5, 1) := dk_8 (dk_at dksX8_ended_3 6 rfl rfl)
theorem dX8_ended_76 : decode cX8_ended 76 = .ok (.if_icmp .ge 47, 3) := dk_162 0 47 (dk_at dksX8_ended_3 7 rfl rfl)
theorem dX8_ended_79 : decode cX8_ended 79 = .ok (.aload_n 0, 1) := dk_42 (dk_at dksX8_ended_3 10 rfl rfl)
theorem dX8_ended_80 : decode cX8_ended 80 = .ok (.getfield 37, 3) := dk_180 0 37 (dk_at dksX8_ended_3 11 rfl rfl)
theorem dX8_ended_83 : decode cX8_ended 83 = .ok (.bipush 16, 2) := dk_16 16 (dk_at dksX8_ended_3 14 rfl rfl)
theorem dX8_ended_85 : decode cX8_ended 85 = .ok (.iload_n 3, 1) := dk_29 (dk_at dksX8_ended_3 16 rfl rfl)
theorem dX8_ended_86 : decode cX8_ended 86 = .ok (.iadd, 1) := dk_96 (dk_at dksX8_ended_3 17 rfl rfl)
theorem dX8_ended_87 : decode cX8_ended 87 = .ok (.aload_n 0, 1) := dk_42 (dk_at dksX8_ended_3 18 rfl rfl)
theorem dX8_ended_88 : decode cX8_ended 88 = .ok (.getfield 37, 3) := dk_180 0 37 (dk_at dksX8_ended_3 19 rfl rfl)
theorem dX8_ended_91 : decode cX8_ended 91 = .ok (.bipush 26, 2) := dk_16 26 (dk_at dksX8_ended_3 22 rfl rfl)
theorem dX8_ended_93 : decode cX8_ended 93 = .ok (.iload_n 3, 1) := dk_29 (dk_at dksX8_ended_4 0 rfl rfl)
theorem dX8_ended_94 : decode cX8_ended 94 = .ok (.iadd, 1) := dk_96 (dk_at dksX8_ended_4 1 rfl rfl)
theorem dX8_ended_95 : decode cX8_ended 95 = .ok (.iaload, 1) := dk_46 (dk_at dksX8_ended_4 2 rfl rfl)
theorem dX8_ended_96 : decode cX8_ended 96 = .ok (.aload_n 0, 1) := dk_42 (dk_at dksX8_ended_4 3 rfl rfl)
theorem dX8_ended_97 : decode cX8_ended 97 = .ok (.getfield 173, 3) := dk_180 0 173 (dk_at dksX8_ended_4 4 rfl rfl)
theorem dX8_ended_100 : decode cX8_ended 100 = .ok (.if_icmp .ne 7, 3) := dk_160 0 7 (dk_at dksX8_ended_4 7 rfl rfl)
theorem dX8_ended_103 : decode cX8_ended 103 = .ok (.iconst (-1), 1) := dk_2 (dk_at dksX8_ended_4 10 rfl rfl)
theorem dX8_ended_104 : decode cX8_ended 104 = .ok (.goto 12, 3) := dk_167 0 12 (dk_at dksX8_ended_4 11 rfl rfl)
theorem dX8_ended_107 : decode cX8_ended 107 = .ok (.aload_n 0, 1) := dk_42 (dk_at dksX8_ended_4 14 rfl rfl)
theorem dX8_ended_108 : decode cX8_ended 108 = .ok (.getfield 37, 3) := dk_180 0 37 (dk_at dksX8_ended_4 15 rfl rfl)
theorem dX8_ended_111 : decode cX8_ended 111 = .ok (.bipush 16, 2) := dk_16 16 (dk_at dksX8_ended_4 18 rfl rfl)
theorem dX8_ended_113 : decode cX8_ended 113 = .ok (.iload_n 3, 1) := dk_29 (dk_at dksX8_ended_4 20 rfl rfl)
theorem dX8_ended_114 : decode cX8_ended 114 = .ok (.iadd, 1) := dk_96 (dk_at dksX8_ended_4 21 rfl rfl)
theorem dX8_ended_115 : decode cX8_ended 115 = .ok (.iaload, 1) := dk_46 (dk_at dksX8_ended_4 22 rfl rfl)
theorem dX8_ended_116 : decode cX8_ended 116 = .ok (.iastore, 1) := dk_79 (dk_at dksX8_ended_4 23 rfl rfl)
theorem dX8_ended_117 : decode cX8_ended 117 = .ok (.iinc 3 1, 3) := dk_132 3 1 (dk_at dksX8_ended_5 0 rfl rfl)
theorem dX8_ended_120 : decode cX8_ended 120 = .ok (.goto (-46), 3) := dk_167 255 210 (dk_at dksX8_ended_5 3 rfl rfl)
theorem dX8_ended_123 : decode cX8_ended 123 = .ok (.aload_n 0, 1) := dk_42 (dk_at dksX8_ended_5 6 rfl rfl)
theorem dX8_ended_124 : decode cX8_ended 124 = .ok (.dup, 1) := dk_89 (dk_at dksX8_ended_5 7 rfl rfl)
theorem dX8_ended_125 : decode cX8_ended 125 = .ok (.getfield 173, 3) := dk_180 0 173 (dk_at dksX8_ended_5 8 rfl rfl)
theorem dX8_ended_128 : decode cX8_ended 128 = .ok (.iconst 1, 1) := dk_4 (dk_at dksX8_ended_5 11 rfl rfl)
theorem dX8_ended_129 : decode cX8_ended 129 = .ok (.isub, 1) := dk_100 (dk_at dksX8_ended_5 12 rfl rfl)
theorem dX8_ended_130 : decode cX8_ended 130 = .ok (.putfield 173, 3) := dk_181 0 173 (dk_at dksX8_ended_5 13 rfl rfl)
theorem dX8_ended_133 : decode cX8_ended 133 = .ok (.iconst 1, 1) := dk_4 (dk_at dksX8_ended_5 16 rfl rfl)
theorem dX8_ended_134 : decode cX8_ended 134 = .ok (.ireturn, 1) := dk_172 (dk_at dksX8_ended_5 17 rfl rfl)
abbrev cX8_leftOf : ByteArray := prog_15_method_40_code
def yX8_leftOf : MethodName := ⟨RX8, "leftOf", "(I)I"⟩
def dkwX8_leftOf_2 : List UInt8 := [16, 8, 29, 96, 46, 27, 160, 0, 7, 29, 167, 0, 4, 28, 61, 132, 3, 255, 167, 255, 196, 28, 172]
abbrev dktX8_leftOf_2 : List UInt8 := dkwX8_leftOf_2 ++ []
def dkwX8_leftOf_1 : List UInt8 := [16, 21, 29, 96, 46, 154, 0, 32, 42, 180, 0, 37, 3, 29, 96, 46, 4, 160, 0, 20, 42, 180, 0, 37]
abbrev dktX8_leftOf_1 : List UInt8 := dkwX8_leftOf_1 ++ dktX8_leftOf_2
def dkwX8_leftOf_0 : List UInt8 := [2, 61, 16, 7, 62, 29, 155, 0, 62, 29, 42, 180, 0, 9, 3, 46, 162, 0, 44, 42, 180, 0, 9]
abbrev dktX8_leftOf_0 : List UInt8 := dkwX8_leftOf_0 ++ dktX8_leftOf_1
theorem dksX8_leftOf_0 : cX8_leftOf.data.toList.drop 0 = dktX8_leftOf_0 := by decide +kernel
theorem dksX8_leftOf_1 : cX8_leftOf.data.toList.drop 23 = dktX8_leftOf_1 := dk_seg dksX8_leftOf_0 23 rfl rfl
theorem dksX8_leftOf_2 : cX8_leftOf.data.toList.drop 47 = dktX8_leftOf_2 := dk_seg dksX8_leftOf_1 24 rfl rfl
theorem dX8_leftOf_0 : decode cX8_leftOf 0 = .ok (.iconst (-1), 1) := dk_2 (dk_at dksX8_leftOf_0 0 rfl rfl)
theorem dX8_leftOf_1 : decode cX8_leftOf 1 = .ok (.istore_n 2, 1) := dk_61 (dk_at dksX8_leftOf_0 1 rfl rfl)
theorem dX8_leftOf_2 : decode cX8_leftOf 2 = .ok (.bipush 7, 2) := dk_16 7 (dk_at dksX8_leftOf_0 2 rfl rfl)
theorem dX8_leftOf_4 : decode cX8_leftOf 4 = .ok (.istore_n 3, 1) := dk_62 (dk_at dksX8_leftOf_0 4 rfl rfl)
theorem dX8_leftOf_5 : decode cX8_leftOf 5 = .ok (.iload_n 3, 1) := dk_29 (dk_at dksX8_leftOf_0 5 rfl rfl)
theorem dX8_leftOf_6 : decode cX8_leftOf 6 = .ok (.ifCond .lt 62, 3) := dk_155 0 62 (dk_at dksX8_leftOf_0 6 rfl rfl)
theorem dX8_leftOf_9 : decode cX8_leftOf 9 = .ok (.iload_n 3, 1) := dk_29 (dk_at dksX8_leftOf_0 9 rfl rfl)
theorem dX8_leftOf_10 : decode cX8_leftOf 10 = .ok (.aload_n 0, 1) := dk_42 (dk_at dksX8_leftOf_0 10 rfl rfl)
theorem dX8_leftOf_11 : decode cX8_leftOf 11 = .ok (.getfield 9, 3) := dk_180 0 9 (dk_at dksX8_leftOf_0 11 rfl rfl)
theorem dX8_leftOf_14 : decode cX8_leftOf 14 = .ok (.iconst 0, 1) := dk_3 (dk_at dksX8_leftOf_0 14 rfl rfl)
theorem dX8_leftOf_15 : decode cX8_leftOf 15 = .ok (.iaload, 1) := dk_46 (dk_at dksX8_leftOf_0 15 rfl rfl)
theorem dX8_leftOf_16 : decode cX8_leftOf 16 = .ok (.if_icmp .ge 44, 3) := dk_162 0 44 (dk_at dksX8_leftOf_0 16 rfl rfl)
theorem dX8_leftOf_19 : decode cX8_leftOf 19 = .ok (.aload_n 0, 1) := dk_42 (dk_at dksX8_leftOf_0 19 rfl rfl)
theorem dX8_leftOf_20 : decode cX8_leftOf 20 = .ok (.getfield 9, 3) := dk_180 0 9 (dk_at dksX8_leftOf_0 20 rfl rfl)
theorem dX8_leftOf_23 : decode cX8_leftOf 23 = .ok (.bipush 21, 2) := dk_16 21 (dk_at dksX8_leftOf_1 0 rfl rfl)
theorem dX8_leftOf_25 : decode cX8_leftOf 25 = .ok (.iload_n 3, 1) := dk_29 (dk_at dksX8_leftOf_1 2 rfl rfl)
theorem dX8_leftOf_26 : decode cX8_leftOf 26 = .ok (.iadd, 1) := dk_96 (dk_at dksX8_leftOf_1 3 rfl rfl)
theorem dX8_leftOf_27 : decode cX8_leftOf 27 = .ok (.iaload, 1) := dk_46 (dk_at dksX8_leftOf_1 4 rfl rfl)
theorem dX8_leftOf_28 : decode cX8_leftOf 28 = .ok (.ifCond .ne 32, 3) := dk_154 0 32 (dk_at dksX8_leftOf_1 5 rfl rfl)
theorem dX8_leftOf_31 : decode cX8_leftOf 31 = .ok (.aload_n 0, 1) := dk_42 (dk_at dksX8_leftOf_1 8 rfl rfl)
theorem dX8_leftOf_32 : decode cX8_leftOf 32 = .ok (.getfield 37, 3) := dk_180 0 37 (dk_at dksX8_leftOf_1 9 rfl rfl)
theorem dX8_leftOf_35 : decode cX8_leftOf 35 = .ok (.iconst 0, 1) := dk_3 (dk_at dksX8_leftOf_1 12 rfl rfl)
theorem dX8_leftOf_36 : decode cX8_leftOf 36 = .ok (.iload_n 3, 1) := dk_29 (dk_at dksX8_leftOf_1 13 rfl rfl)
theorem dX8_leftOf_37 : decode cX8_leftOf 37 = .ok (.iadd, 1) := dk_96 (dk_at dksX8_leftOf_1 14 rfl rfl)
theorem dX8_leftOf_38 : decode cX8_leftOf 38 = .ok (.iaload, 1) := dk_46 (dk_at dksX8_leftOf_1 15 rfl rfl)
theorem dX8_leftOf_39 : decode cX8_leftOf 39 = .ok (.iconst 1, 1) := dk_4 (dk_at dksX8_leftOf_1 16 rfl rfl)
theorem dX8_leftOf_40 : decode cX8_leftOf 40 = .ok (.if_icmp .ne 20, 3) := dk_160 0 20 (dk_at dksX8_leftOf_1 17 rfl rfl)
theorem dX8_leftOf_43 : decode cX8_leftOf 43 = .ok (.aload_n 0, 1) := dk_42 (dk_at dksX8_leftOf_1 20 rfl rfl)
theorem dX8_leftOf_44 : decode cX8_leftOf 44 = .ok (.getfield 37, 3) := dk_180 0 37 (dk_at dksX8_leftOf_1 21 rfl rfl)
theorem dX8_leftOf_47 : decode cX8_leftOf 47 = .ok (.bipush 8, 2) := dk_16 8 (dk_at dksX8_leftOf_2 0 rfl rfl)
theorem dX8_leftOf_49 : decode cX8_leftOf 49 = .ok (.iload_n 3, 1) := dk_29 (dk_at dksX8_leftOf_2 2 rfl rfl)
theorem dX8_leftOf_50 : decode cX8_leftOf 50 = .ok (.iadd, 1) := dk_96 (dk_at dksX8_leftOf_2 3 rfl rfl)
theorem dX8_leftOf_51 : decode cX8_leftOf 51 = .ok (.iaload, 1) := dk_46 (dk_at dksX8_leftOf_2 4 rfl rfl)
theorem dX8_leftOf_52 : decode cX8_leftOf 52 = .ok (.iload_n 1, 1) := dk_27 (dk_at dksX8_leftOf_2 5 rfl rfl)
theorem dX8_leftOf_53 : decode cX8_leftOf 53 = .ok (.if_icmp .ne 7, 3) := dk_160 0 7 (dk_at dksX8_leftOf_2 6 rfl rfl)
theorem dX8_leftOf_56 : decode cX8_leftOf 56 = .ok (.iload_n 3, 1) := dk_29 (dk_at dksX8_leftOf_2 9 rfl rfl)
theorem dX8_leftOf_57 : decode cX8_leftOf 57 = .ok (.goto 4, 3) := dk_167 0 4 (dk_at dksX8_leftOf_2 10 rfl rfl)
theorem dX8_leftOf_60 : decode cX8_leftOf 60 = .ok (.iload_n 2, 1) := dk_28 (dk_at dksX8_leftOf_2 13 rfl rfl)
theorem dX8_leftOf_61 : decode cX8_leftOf 61 = .ok (.istore_n 2, 1) := dk_61 (dk_at dksX8_leftOf_2 14 rfl rfl)
theorem dX8_leftOf_62 : decode cX8_leftOf 62 = .ok (.iinc 3 (-1), 3) := dk_132 3 255 (dk_at dksX8_leftOf_2 15 rfl rfl)
theorem dX8_leftOf_65 : decode cX8_leftOf 65 = .ok (.goto (-60), 3) := dk_167 255 196 (dk_at dksX8_leftOf_2 18 rfl rfl)
theorem dX8_leftOf_68 : decode cX8_leftOf 68 = .ok (.iload_n 2, 1) := dk_28 (dk_at dksX8_leftOf_2 21 rfl rfl)
theorem dX8_leftOf_69 : decode cX8_leftOf 69 = .ok (.ireturn, 1) := dk_172 (dk_at dksX8_leftOf_2 22 rfl rfl)
abbrev cX8_brings : ByteArray := prog_15_method_44_code
def yX8_brings : MethodName := ⟨RX8, "brings", "(II)Z"⟩
def dkwX8_brings_1 : List UInt8 := [28, 96, 4, 79, 42, 180, 0, 37, 16, 8, 28, 96, 42, 180, 0, 173, 79, 4, 172]
abbrev dktX8_brings_1 : List UInt8 := dkwX8_brings_1 ++ []
def dkwX8_brings_0 : List UInt8 := [42, 180, 0, 37, 3, 28, 96, 46, 153, 0, 11, 42, 5, 27, 28, 182, 0, 188, 172, 42, 180, 0, 37, 3]
abbrev dktX8_brings_0 : List UInt8 := dkwX8_brings_0 ++ dktX8_brings_1
theorem dksX8_brings_0 : cX8_brings.data.toList.drop 0 = dktX8_brings_0 := by decide +kernel
theorem dksX8_brings_1 : cX8_brings.data.toList.drop 24 = dktX8_brings_1 := dk_seg dksX8_brings_0 24 rfl rfl
theorem dX8_brings_0 : decode cX8_brings 0 = .ok (.aload_n 0, 1) := dk_42 (dk_at dksX8_brings_0 0 rfl rfl)
theorem dX8_brings_1 : decode cX8_brings 1 = .ok (.getfield 37, 3) := dk_180 0 37 (dk_at dksX8_brings_0 1 rfl rfl)
theorem dX8_brings_4 : decode cX8_brings 4 = .ok (.iconst 0, 1) := dk_3 (dk_at dksX8_brings_0 4 rfl rfl)
theorem dX8_brings_5 : decode cX8_brings 5 = .ok (.iload_n 2, 1) := dk_28 (dk_at dksX8_brings_0 5 rfl rfl)
theorem dX8_brings_6 : decode cX8_brings 6 = .ok (.iadd, 1) := dk_96 (dk_at dksX8_brings_0 6 rfl rfl)
theorem dX8_brings_7 : decode cX8_brings 7 = .ok (.iaload, 1) := dk_46 (dk_at dksX8_brings_0 7 rfl rfl)
theorem dX8_brings_8 : decode cX8_brings 8 = .ok (.ifCond .eq 11, 3) := dk_153 0 11 (dk_at dksX8_brings_0 8 rfl rfl)
theorem dX8_brings_11 : decode cX8_brings 11 = .ok (.aload_n 0, 1) := dk_42 (dk_at dksX8_brings_0 11 rfl rfl)
theorem dX8_brings_12 : decode cX8_brings 12 = .ok (.iconst 2, 1) := dk_5 (dk_at dksX8_brings_0 12 rfl rfl)
theorem dX8_brings_13 : decode cX8_brings 13 = .ok (.iload_n 1, 1) := dk_27 (dk_at dksX8_brings_0 13 rfl rfl)
theorem dX8_brings_14 : decode cX8_brings 14 = .ok (.iload_n 2, 1) := dk_28 (dk_at dksX8_brings_0 14 rfl rfl)
theorem dX8_brings_15 : decode cX8_brings 15 = .ok (.invokevirtual 188, 3) := dk_182 0 188 (dk_at dksX8_brings_0 15 rfl rfl)
theorem dX8_brings_18 : decode cX8_brings 18 = .ok (.ireturn, 1) := dk_172 (dk_at dksX8_brings_0 18 rfl rfl)
theorem dX8_brings_19 : decode cX8_brings 19 = .ok (.aload_n 0, 1) := dk_42 (dk_at dksX8_brings_0 19 rfl rfl)
theorem dX8_brings_20 : decode cX8_brings 20 = .ok (.getfield 37, 3) := dk_180 0 37 (dk_at dksX8_brings_0 20 rfl rfl)
theorem dX8_brings_23 : decode cX8_brings 23 = .ok (.iconst 0, 1) := dk_3 (dk_at dksX8_brings_0 23 rfl rfl)
theorem dX8_brings_24 : decode cX8_brings 24 = .ok (.iload_n 2, 1) := dk_28 (dk_at dksX8_brings_1 0 rfl rfl)
theorem dX8_brings_25 : decode cX8_brings 25 = .ok (.iadd, 1) := dk_96 (dk_at dksX8_brings_1 1 rfl rfl)
theorem dX8_brings_26 : decode cX8_brings 26 = .ok (.iconst 1, 1) := dk_4 (dk_at dksX8_brings_1 2 rfl rfl)
theorem dX8_brings_27 : decode cX8_brings 27 = .ok (.iastore, 1) := dk_79 (dk_at dksX8_brings_1 3 rfl rfl)
theorem dX8_brings_28 : decode cX8_brings 28 = .ok (.aload_n 0, 1) := dk_42 (dk_at dksX8_brings_1 4 rfl rfl)
theorem dX8_brings_29 : decode cX8_brings 29 = .ok (.getfield 37, 3) := dk_180 0 37 (dk_at dksX8_brings_1 5 rfl rfl)
theorem dX8_brings_32 : decode cX8_brings 32 = .ok (.bipush 8, 2) := dk_16 8 (dk_at dksX8_brings_1 8 rfl rfl)
theorem dX8_brings_34 : decode cX8_brings 34 = .ok (.iload_n 2, 1) := dk_28 (dk_at dksX8_brings_1 10 rfl rfl)
theorem dX8_brings_35 : decode cX8_brings 35 = .ok (.iadd, 1) := dk_96 (dk_at dksX8_brings_1 11 rfl rfl)
theorem dX8_brings_36 : decode cX8_brings 36 = .ok (.aload_n 0, 1) := dk_42 (dk_at dksX8_brings_1 12 rfl rfl)
theorem dX8_brings_37 : decode cX8_brings 37 = .ok (.getfield 173, 3) := dk_180 0 173 (dk_at dksX8_brings_1 13 rfl rfl)
theorem dX8_brings_40 : decode cX8_brings 40 = .ok (.iastore, 1) := dk_79 (dk_at dksX8_brings_1 16 rfl rfl)
theorem dX8_brings_41 : decode cX8_brings 41 = .ok (.iconst 1, 1) := dk_4 (dk_at dksX8_brings_1 17 rfl rfl)
theorem dX8_brings_42 : decode cX8_brings 42 = .ok (.ireturn, 1) := dk_172 (dk_at dksX8_brings_1 18 rfl rfl)
abbrev cX8_gives : ByteArray := prog_15_method_45_code
def yX8_gives : MethodName := ⟨RX8, "gives", "(II)Z"⟩
def dkwX8_gives_2 : List UInt8 := [180, 0, 9, 16, 21, 28, 96, 46, 5, 160, 0, 7, 4, 167, 0, 4, 3, 79, 4, 172]
abbrev dktX8_gives_2 : List UInt8 := dkwX8_gives_2 ++ []
def dkwX8_gives_1 : List UInt8 := [182, 0, 191, 158, 0, 11, 42, 7, 27, 28, 182, 0, 188, 172, 42, 180, 0, 37, 3, 28, 96, 42]
abbrev dktX8_gives_1 : List UInt8 := dkwX8_gives_1 ++ dktX8_gives_2
def dkwX8_gives_0 : List UInt8 := [42, 180, 0, 37, 3, 28, 96, 46, 4, 159, 0, 11, 42, 6, 27, 28, 182, 0, 188, 172, 42, 28, 3]
abbrev dktX8_gives_0 : List UInt8 := dkwX8_gives_0 ++ dktX8_gives_1
theorem dksX8_gives_0 : cX8_gives.data.toList.drop 0 = dktX8_gives_0 := by decide +kernel
theorem dksX8_gives_1 : cX8_gives.data.toList.drop 23 = dktX8_gives_1 := dk_seg dksX8_gives_0 23 rfl rfl
theorem dksX8_gives_2 : cX8_gives.data.toList.drop 45 = dktX8_gives_2 := dk_seg dksX8_gives_1 22 rfl rfl
theorem dX8_gives_0 : decode cX8_gives 0 = .ok (.aload_n 0, 1) := dk_42 (dk_at dksX8_gives_0 0 rfl rfl)
theorem dX8_gives_1 : decode cX8_gives 1 = .ok (.getfield 37, 3) := dk_180 0 37 (dk_at dksX8_gives_0 1 rfl rfl)
theorem dX8_gives_4 : decode cX8_gives 4 = .ok (.iconst 0, 1) := dk_3 (dk_at dksX8_gives_0 4 rfl rfl)
theorem dX8_gives_5 : decode cX8_gives 5 = .ok (.iload_n 2, 1) := dk_28 (dk_at dksX8_gives_0 5 rfl rfl)
theorem dX8_gives_6 : decode cX8_gives 6 = .ok (.iadd, 1) := dk_96 (dk_at dksX8_gives_0 6 rfl rfl)
theorem dX8_gives_7 : decode cX8_gives 7 = .ok (.iaload, 1) := dk_46 (dk_at dksX8_gives_0 7 rfl rfl)
theorem dX8_gives_8 : decode cX8_gives 8 = .ok (.iconst 1, 1) := dk_4 (dk_at dksX8_gives_0 8 rfl rfl)
theorem dX8_gives_9 : decode cX8_gives 9 = .ok (.if_icmp .eq 11, 3) := dk_159 0 11 (dk_at dksX8_gives_0 9 rfl rfl)
theorem dX8_gives_12 : decode cX8_gives 12 = .ok (.aload_n 0, 1) := dk_42 (dk_at dksX8_gives_0 12 rfl rfl)
theorem dX8_gives_13 : decode cX8_gives 13 = .ok (.iconst 3, 1) := dk_6 (dk_at dksX8_gives_0 13 rfl rfl)
theorem dX8_gives_14 : decode cX8_gives 14 = .ok (.iload_n 1, 1) := dk_27 (dk_at dksX8_gives_0 14 rfl rfl)
theorem dX8_gives_15 : decode cX8_gives 15 = .ok (.iload_n 2, 1) := dk_28 (dk_at dksX8_gives_0 15 rfl rfl)
theorem dX8_gives_16 : decode cX8_gives 16 = .ok (.invokevirtual 188, 3) := dk_182 0 188 (dk_at dksX8_gives_0 16 rfl rfl)
theorem dX8_gives_19 : decode cX8_gives 19 = .ok (.ireturn, 1) := dk_172 (dk_at dksX8_gives_0 19 rfl rfl)
theorem dX8_gives_20 : decode cX8_gives 20 = .ok (.aload_n 0, 1) := dk_42 (dk_at dksX8_gives_0 20 rfl rfl)
theorem dX8_gives_21 : decode cX8_gives 21 = .ok (.iload_n 2, 1) := dk_28 (dk_at dksX8_gives_0 21 rfl rfl)
theorem dX8_gives_22 : decode cX8_gives 22 = .ok (.iconst 0, 1) := dk_3 (dk_at dksX8_gives_0 22 rfl rfl)
theorem dX8_gives_23 : decode cX8_gives 23 = .ok (.invokevirtual 191, 3) := dk_182 0 191 (dk_at dksX8_gives_1 0 rfl rfl)
theorem dX8_gives_26 : decode cX8_gives 26 = .ok (.ifCond .le 11, 3) := dk_158 0 11 (dk_at dksX8_gives_1 3 rfl rfl)
theorem dX8_gives_29 : decode cX8_gives 29 = .ok (.aload_n 0, 1) := dk_42 (dk_at dksX8_gives_1 6 rfl rfl)
theorem dX8_gives_30 : decode cX8_gives 30 = .ok (.iconst 4, 1) := dk_7 (dk_at dksX8_gives_1 7 rfl rfl)
theorem dX8_gives_31 : decode cX8_gives 31 = .ok (.iload_n 1, 1) := dk_27 (dk_at dksX8_gives_1 8 rfl rfl)
theorem dX8_gives_32 : decode cX8_gives 32 = .ok (.iload_n 2, 1) := dk_28 (dk_at dksX8_gives_1 9 rfl rfl)
theorem dX8_gives_33 : decode cX8_gives 33 = .ok (.invokevirtual 188, 3) := dk_182 0 188 (dk_at dksX8_gives_1 10 rfl rfl)
theorem dX8_gives_36 : decode cX8_gives 36 = .ok (.ireturn, 1) := dk_172 (dk_at dksX8_gives_1 13 rfl rfl)
theorem dX8_gives_37 : decode cX8_gives 37 = .ok (.aload_n 0, 1) := dk_42 (dk_at dksX8_gives_1 14 rfl rfl)
theorem dX8_gives_38 : decode cX8_gives 38 = .ok (.getfield 37, 3) := dk_180 0 37 (dk_at dksX8_gives_1 15 rfl rfl)
theorem dX8_gives_41 : decode cX8_gives 41 = .ok (.iconst 0, 1) := dk_3 (dk_at dksX8_gives_1 18 rfl rfl)
theorem dX8_gives_42 : decode cX8_gives 42 = .ok (.iload_n 2, 1) := dk_28 (dk_at dksX8_gives_1 19 rfl rfl)
theorem dX8_gives_43 : decode cX8_gives 43 = .ok (.iadd, 1) := dk_96 (dk_at dksX8_gives_1 20 rfl rfl)
theorem dX8_gives_44 : decode cX8_gives 44 = .ok (.aload_n 0, 1) := dk_42 (dk_at dksX8_gives_1 21 rfl rfl)
theorem dX8_gives_45 : decode cX8_gives 45 = .ok (.getfield 9, 3) := dk_180 0 9 (dk_at dksX8_gives_2 0 rfl rfl)
theorem dX8_gives_48 : decode cX8_gives 48 = .ok (.bipush 21, 2) := dk_16 21 (dk_at dksX8_gives_2 3 rfl rfl)
theorem dX8_gives_50 : decode cX8_gives 50 = .ok (.iload_n 2, 1) := dk_28 (dk_at dksX8_gives_2 5 rfl rfl)
theorem dX8_gives_51 : decode cX8_gives 51 = .ok (.iadd, 1) := dk_96 (dk_at dksX8_gives_2 6 rfl rfl)
theorem dX8_gives_52 : decode cX8_gives 52 = .ok (.iaload, 1) := dk_46 (dk_at dksX8_gives_2 7 rfl rfl)
theorem dX8_gives_53 : decode cX8_gives 53 = .ok (.iconst 2, 1) := dk_5 (dk_at dksX8_gives_2 8 rfl rfl)
theorem dX8_gives_54 : decode cX8_gives 54 = .ok (.if_icmp .ne 7, 3) := dk_160 0 7 (dk_at dksX8_gives_2 9 rfl rfl)
theorem dX8_gives_57 : decode cX8_gives 57 = .ok (.iconst 1, 1) := dk_4 (dk_at dksX8_gives_2 12 rfl rfl)
theorem dX8_gives_58 : decode cX8_gives 58 = .ok (.goto 4, 3) := dk_167 0 4 (dk_at dksX8_gives_2 13 rfl rfl)
theorem dX8_gives_61 : decode cX8_gives 61 = .ok (.iconst 0, 1) := dk_3 (dk_at dksX8_gives_2 16 rfl rfl)
theorem dX8_gives_62 : decode cX8_gives 62 = .ok (.iastore, 1) := dk_79 (dk_at dksX8_gives_2 17 rfl rfl)
theorem dX8_gives_63 : decode cX8_gives 63 = .ok (.iconst 1, 1) := dk_4 (dk_at dksX8_gives_2 18 rfl rfl)
theorem dX8_gives_64 : decode cX8_gives 64 = .ok (.ireturn, 1) := dk_172 (dk_at dksX8_gives_2 19 rfl rfl)
abbrev cX8_ploughsOn : ByteArray := prog_15_method_43_code
def yX8_ploughsOn : MethodName := ⟨RX8, "ploughsOn", "(IZ)I"⟩
def dkwX8_ploughsOn_2 : List UInt8 := [167, 0, 4, 3, 96, 62, 132, 4, 1, 167, 255, 207, 29, 172]
abbrev dktX8_ploughsOn_2 : List UInt8 := dkwX8_ploughsOn_2 ++ []
def dkwX8_ploughsOn_1 : List UInt8 := [160, 0, 25, 28, 153, 0, 17, 42, 180, 0, 37, 16, 21, 21, 4, 96, 46, 4, 160, 0, 7, 4]
abbrev dktX8_ploughsOn_1 : List UInt8 := dkwX8_ploughsOn_1 ++ dktX8_ploughsOn_2
def dkwX8_ploughsOn_0 : List UInt8 := [3, 62, 3, 54, 4, 21, 4, 8, 162, 0, 49, 29, 42, 180, 0, 37, 16, 16, 21, 4, 96, 46, 27]
abbrev dktX8_ploughsOn_0 : List UInt8 := dkwX8_ploughsOn_0 ++ dktX8_ploughsOn_1
theorem dksX8_ploughsOn_0 : cX8_ploughsOn.data.toList.drop 0 = dktX8_ploughsOn_0 := by decide +kernel
theorem dksX8_ploughsOn_1 : cX8_ploughsOn.data.toList.drop 23 = dktX8_ploughsOn_1 := dk_seg dksX8_ploughsOn_0 23 rfl rfl
theorem dksX8_ploughsOn_2 : cX8_ploughsOn.data.toList.drop 45 = dktX8_ploughsOn_2 := dk_seg dksX8_ploughsOn_1 22 rfl rfl
theorem dX8_ploughsOn_0 : decode cX8_ploughsOn 0 = .ok (.iconst 0, 1) := dk_3 (dk_at dksX8_ploughsOn_0 0 rfl rfl)
theorem dX8_ploughsOn_1 : decode cX8_ploughsOn 1 = .ok (.istore_n 3, 1) := dk_62 (dk_at dksX8_ploughsOn_0 1 rfl rfl)
theorem dX8_ploughsOn_2 : decode cX8_ploughsOn 2 = .ok (.iconst 0, 1) := dk_3 (dk_at dksX8_ploughsOn_0 2 rfl rfl)
theorem dX8_ploughsOn_3 : decode cX8_ploughsOn 3 = .ok (.istore 4, 2) := dk_54 4 (dk_at dksX8_ploughsOn_0 3 rfl rfl)
theorem dX8_ploughsOn_5 : decode cX8_ploughsOn 5 = .ok (.iload 4, 2) := dk_21 4 (dk_at dksX8_ploughsOn_0 5 rfl rfl)
theorem dX8_ploughsOn_7 : decode cX8_ploughsOn 7 = .ok (.iconst 5, 1) := dk_8 (dk_at dksX8_ploughsOn_0 7 rfl rfl)
theorem dX8_ploughsOn_8 : decode cX8_ploughsOn 8 = .ok (.if_icmp .ge 49, 3) := dk_162 0 49 (dk_at dksX8_ploughsOn_0 8 rfl rfl)
theorem dX8_ploughsOn_11 : decode cX8_ploughsOn 11 = .ok (.iload_n 3, 1) := dk_29 (dk_at dksX8_ploughsOn_0 11 rfl rfl)
theorem dX8_ploughsOn_12 : decode cX8_ploughsOn 12 = .ok (.aload_n 0, 1) := dk_42 (dk_at dksX8_ploughsOn_0 12 rfl rfl)
theorem dX8_ploughsOn_13 : decode cX8_ploughsOn 13 = .ok (.getfield 37, 3) := dk_180 0 37 (dk_at dksX8_ploughsOn_0 13 rfl rfl)
theorem dX8_ploughsOn_16 : decode cX8_ploughsOn 16 = .ok (.bipush 16, 2) := dk_16 16 (dk_at dksX8_ploughsOn_0 16 rfl rfl)
theorem dX8_ploughsOn_18 : decode cX8_ploughsOn 18 = .ok (.iload 4, 2) := dk_21 4 (dk_at dksX8_ploughsOn_0 18 rfl rfl)
theorem dX8_ploughsOn_20 : decode cX8_ploughsOn 20 = .ok (.iadd, 1) := dk_96 (dk_at dksX8_ploughsOn_0 20 rfl rfl)
theorem dX8_ploughsOn_21 : decode cX8_ploughsOn 21 = .ok (.iaload, 1) := dk_46 (dk_at dksX8_ploughsOn_0 21 rfl rfl)
theorem dX8_ploughsOn_22 : decode cX8_ploughsOn 22 = .ok (.iload_n 1, 1) := dk_27 (dk_at dksX8_ploughsOn_0 22 rfl rfl)
theorem dX8_ploughsOn_23 : decode cX8_ploughsOn 23 = .ok (.if_icmp .ne 25, 3) := dk_160 0 25 (dk_at dksX8_ploughsOn_1 0 rfl rfl)
theorem dX8_ploughsOn_26 : decode cX8_ploughsOn 26 = .ok (.iload_n 2, 1) := dk_28 (dk_at dksX8_ploughsOn_1 3 rfl rfl)
theorem dX8_ploughsOn_27 : decode cX8_ploughsOn 27 = .ok (.ifCond .eq 17, 3) := dk_153 0 17 (dk_at dksX8_ploughsOn_1 4 rfl rfl)
theorem dX8_ploughsOn_30 : decode cX8_ploughsOn 30 = .ok (.aload_n 0, 1) := dk_42 (dk_at dksX8_ploughsOn_1 7 rfl rfl)
theorem dX8_ploughsOn_31 : decode cX8_ploughsOn 31 = .ok (.getfield 37, 3) := dk_180 0 37 (dk_at dksX8_ploughsOn_1 8 rfl rfl)
theorem dX8_ploughsOn_34 : decode cX8_ploughsOn 34 = .ok (.bipush 21, 2) := dk_16 21 (dk_at dksX8_ploughsOn_1 11 rfl rfl)
theorem dX8_ploughsOn_36 : decode cX8_ploughsOn 36 = .ok (.iload 4, 2) := dk_21 4 (dk_at dksX8_ploughsOn_1 13 rfl rfl)
theorem dX8_ploughsOn_38 : decode cX8_ploughsOn 38 = .ok (.iadd, 1) := dk_96 (dk_at dksX8_ploughsOn_1 15 rfl rfl)
theorem dX8_ploughsOn_39 : decode cX8_ploughsOn 39 = .ok (.iaload, 1) := dk_46 (dk_at dksX8_ploughsOn_1 16 rfl rfl)
theorem dX8_ploughsOn_40 : decode cX8_ploughsOn 40 = .ok (.iconst 1, 1) := dk_4 (dk_at dksX8_ploughsOn_1 17 rfl rfl)
theorem dX8_ploughsOn_41 : decode cX8_ploughsOn 41 = .ok (.if_icmp .ne 7, 3) := dk_160 0 7 (dk_at dksX8_ploughsOn_1 18 rfl rfl)
theorem dX8_ploughsOn_44 : decode cX8_ploughsOn 44 = .ok (.iconst 1, 1) := dk_4 (dk_at dksX8_ploughsOn_1 21 rfl rfl)
theorem dX8_ploughsOn_45 : decode cX8_ploughsOn 45 = .ok (.goto 4, 3) := dk_167 0 4 (dk_at dksX8_ploughsOn_2 0 rfl rfl)
theorem dX8_ploughsOn_48 : decode cX8_ploughsOn 48 = .ok (.iconst 0, 1) := dk_3 (dk_at dksX8_ploughsOn_2 3 rfl rfl)
theorem dX8_ploughsOn_49 : decode cX8_ploughsOn 49 = .ok (.iadd, 1) := dk_96 (dk_at dksX8_ploughsOn_2 4 rfl rfl)
theorem dX8_ploughsOn_50 : decode cX8_ploughsOn 50 = .ok (.istore_n 3, 1) := dk_62 (dk_at dksX8_ploughsOn_2 5 rfl rfl)
theorem dX8_ploughsOn_51 : decode cX8_ploughsOn 51 = .ok (.iinc 4 1, 3) := dk_132 4 1 (dk_at dksX8_ploughsOn_2 6 rfl rfl)
theorem dX8_ploughsOn_54 : decode cX8_ploughsOn 54 = .ok (.goto (-49), 3) := dk_167 255 207 (dk_at dksX8_ploughsOn_2 9 rfl rfl)
theorem dX8_ploughsOn_57 : decode cX8_ploughsOn 57 = .ok (.iload_n 3, 1) := dk_29 (dk_at dksX8_ploughsOn_2 12 rfl rfl)
theorem dX8_ploughsOn_58 : decode cX8_ploughsOn 58 = .ok (.ireturn, 1) := dk_172 (dk_at dksX8_ploughsOn_2 13 rfl rfl)
abbrev cX8_puts : ByteArray := prog_15_method_46_code
def yX8_puts : MethodName := ⟨RX8, "puts", "(IIIZ)Z"⟩
def dkwX8_puts_4 : List UInt8 := [79, 42, 180, 0, 37, 16, 26, 28, 96, 42, 180, 0, 173, 79, 4, 172]
abbrev dktX8_puts_4 : List UInt8 := dkwX8_puts_4 ++ []
def dkwX8_puts_3 : List UInt8 := [16, 16, 28, 96, 29, 79, 42, 180, 0, 37, 16, 21, 28, 96, 21, 4, 153, 0, 7, 4, 167, 0, 4, 3]
abbrev dktX8_puts_3 : List UInt8 := dkwX8_puts_3 ++ dktX8_puts_4
def dkwX8_puts_2 : List UInt8 := [180, 0, 37, 16, 16, 28, 96, 46, 155, 0, 12, 42, 16, 6, 27, 28, 182, 0, 188, 172, 42, 180, 0, 37]
abbrev dktX8_puts_2 : List UInt8 := dkwX8_puts_2 ++ dktX8_puts_3
def dkwX8_puts_1 : List UInt8 := [154, 0, 7, 4, 167, 0, 4, 3, 182, 0, 191, 158, 0, 11, 42, 7, 27, 29, 182, 0, 188, 172, 42]
abbrev dktX8_puts_1 : List UInt8 := dkwX8_puts_1 ++ dktX8_puts_2
def dkwX8_puts_0 : List UInt8 := [42, 180, 0, 37, 3, 29, 96, 46, 4, 159, 0, 11, 42, 6, 27, 29, 182, 0, 188, 172, 42, 29, 21, 4]
abbrev dktX8_puts_0 : List UInt8 := dkwX8_puts_0 ++ dktX8_puts_1
theorem dksX8_puts_0 : cX8_puts.data.toList.drop 0 = dktX8_puts_0 := by decide +kernel
theorem dksX8_puts_1 : cX8_puts.data.toList.drop 24 = dktX8_puts_1 := dk_seg dksX8_puts_0 24 rfl rfl
theorem dksX8_puts_2 : cX8_puts.data.toList.drop 47 = dktX8_puts_2 := dk_seg dksX8_puts_1 23 rfl rfl
theorem dksX8_puts_3 : cX8_puts.data.toList.drop 71 = dktX8_puts_3 := dk_seg dksX8_puts_2 24 rfl rfl
theorem dksX8_puts_4 : cX8_puts.data.toList.drop 95 = dktX8_puts_4 := dk_seg dksX8_puts_3 24 rfl rfl
theorem dX8_puts_0 : decode cX8_puts 0 = .ok (.aload_n 0, 1) := dk_42 (dk_at dksX8_puts_0 0 rfl rfl)
theorem dX8_puts_1 : decode cX8_puts 1 = .ok (.getfield 37, 3) := dk_180 0 37 (dk_at dksX8_puts_0 1 rfl rfl)
theorem dX8_puts_4 : decode cX8_puts 4 = .ok (.iconst 0, 1) := dk_3 (dk_at dksX8_puts_0 4 rfl rfl)
theorem dX8_puts_5 : decode cX8_puts 5 = .ok (.iload_n 3, 1) := dk_29 (dk_at dksX8_puts_0 5 rfl rfl)
theorem dX8_puts_6 : decode cX8_puts 6 = .ok (.iadd, 1) := dk_96 (dk_at dksX8_puts_0 6 rfl rfl)
theorem dX8_puts_7 : decode cX8_puts 7 = .ok (.iaload, 1) := dk_46 (dk_at dksX8_puts_0 7 rfl rfl)
theorem dX8_puts_8 : decode cX8_puts 8 = .ok (.iconst 1, 1) := dk_4 (dk_at dksX8_puts_0 8 rfl rfl)
theorem dX8_puts_9 : decode cX8_puts 9 = .ok (.if_icmp .eq 11, 3) := dk_159 0 11 (dk_at dksX8_puts_0 9 rfl rfl)
theorem dX8_puts_12 : decode cX8_puts 12 = .ok (.aload_n 0, 1) := dk_42 (dk_at dksX8_puts_0 12 rfl rfl)
theorem dX8_puts_13 : decode cX8_puts 13 = .ok (.iconst 3, 1) := dk_6 (dk_at dksX8_puts_0 13 rfl rfl)
theorem dX8_puts_14 : decode cX8_puts 14 = .ok (.iload_n 1, 1) := dk_27 (dk_at dksX8_puts_0 14 rfl rfl)
theorem dX8_puts_15 : decode cX8_puts 15 = .ok (.iload_n 3, 1) := dk_29 (dk_at dksX8_puts_0 15 rfl rfl)
theorem dX8_puts_16 : decode cX8_puts 16 = .ok (.invokevirtual 188, 3) := dk_182 0 188 (dk_at dksX8_puts_0 16 rfl rfl)
theorem dX8_puts_19 : decode cX8_puts 19 = .ok (.ireturn, 1) := dk_172 (dk_at dksX8_puts_0 19 rfl rfl)
theorem dX8_puts_20 : decode cX8_puts 20 = .ok (.aload_n 0, 1) := dk_42 (dk_at dksX8_puts_0 20 rfl rfl)
theorem dX8_puts_21 : decode cX8_puts 21 = .ok (.iload_n 3, 1) := dk_29 (dk_at dksX8_puts_0 21 rfl rfl)
theorem dX8_puts_22 : decode cX8_puts 22 = .ok (.iload 4, 2) := dk_21 4 (dk_at dksX8_puts_0 22 rfl rfl)
theorem dX8_puts_24 : decode cX8_puts 24 = .ok (.ifCond .ne 7, 3) := dk_154 0 7 (dk_at dksX8_puts_1 0 rfl rfl)
theorem dX8_puts_27 : decode cX8_puts 27 = .ok (.iconst 1, 1) := dk_4 (dk_at dksX8_puts_1 3 rfl rfl)
theorem dX8_puts_28 : decode cX8_puts 28 = .ok (.goto 4, 3) := dk_167 0 4 (dk_at dksX8_puts_1 4 rfl rfl)
theorem dX8_puts_31 : decode cX8_puts 31 = .ok (.iconst 0, 1) := dk_3 (dk_at dksX8_puts_1 7 rfl rfl)
theorem dX8_puts_32 : decode cX8_puts 32 = .ok (.invokevirtual 191, 3) := dk_182 0 191 (dk_at dksX8_puts_1 8 rfl rfl)
theorem dX8_puts_35 : decode cX8_puts 35 = .ok (.ifCond .le 11, 3) := dk_158 0 11 (dk_at dksX8_puts_1 11 rfl rfl)
theorem dX8_puts_38 : decode cX8_puts 38 = .ok (.aload_n 0, 1) := dk_42 (dk_at dksX8_puts_1 14 rfl rfl)
theorem dX8_puts_39 : decode cX8_puts 39 = .ok (.iconst 4, 1) := dk_7 (dk_at dksX8_puts_1 15 rfl rfl)
theorem dX8_puts_40 : decode cX8_puts 40 = .ok (.iload_n 1, 1) := dk_27 (dk_at dksX8_puts_1 16 rfl rfl)
theorem dX8_puts_41 : decode cX8_puts 41 = .ok (.iload_n 3, 1) := dk_29 (dk_at dksX8_puts_1 17 rfl rfl)
theorem dX8_puts_42 : decode cX8_puts 42 = .ok (.invokevirtual 188, 3) := dk_182 0 188 (dk_at dksX8_puts_1 18 rfl rfl)
theorem dX8_puts_45 : decode cX8_puts 45 = .ok (.ireturn, 1) := dk_172 (dk_at dksX8_puts_1 21 rfl rfl)
theorem dX8_puts_46 : decode cX8_puts 46 = .ok (.aload_n 0, 1) := dk_42 (dk_at dksX8_puts_1 22 rfl rfl)
theorem dX8_puts_47 : decode cX8_puts 47 = .ok (.getfield 37, 3) := dk_180 0 37 (dk_at dksX8_puts_2 0 rfl rfl)
theorem dX8_puts_50 : decode cX8_puts 50 = .ok (.bipush 16, 2) := dk_16 16 (dk_at dksX8_puts_2 3 rfl rfl)
theorem dX8_puts_52 : decode cX8_puts 52 = .ok (.iload_n 2, 1) := dk_28 (dk_at dksX8_puts_2 5 rfl rfl)
theorem dX8_puts_53 : decode cX8_puts 53 = .ok (.iadd, 1) := dk_96 (dk_at dksX8_puts_2 6 rfl rfl)
theorem dX8_puts_54 : decode cX8_puts 54 = .ok (.iaload, 1) := dk_46 (dk_at dksX8_puts_2 7 rfl rfl)
theorem dX8_puts_55 : decode cX8_puts 55 = .ok (.ifCond .lt 12, 3) := dk_155 0 12 (dk_at dksX8_puts_2 8 rfl rfl)
theorem dX8_puts_58 : decode cX8_puts 58 = .ok (.aload_n 0, 1) := dk_42 (dk_at dksX8_puts_2 11 rfl rfl)
theorem dX8_puts_59 : decode cX8_puts 59 = .ok (.bipush 6, 2) := dk_16 6 (dk_at dksX8_puts_2 12 rfl rfl)
theorem dX8_puts_61 : decode cX8_puts 61 = .ok (.iload_n 1, 1) := dk_27 (dk_at dksX8_puts_2 14 rfl rfl)
theorem dX8_puts_62 : decode cX8_puts 62 = .ok (.iload_n 2, 1) := dk_28 (dk_at dksX8_puts_2 15 rfl rfl)
theorem dX8_puts_63 : decode cX8_puts 63 = .ok (.invokevirtual 188, 3) := dk_182 0 188 (dk_at dksX8_puts_2 16 rfl rfl)
theorem dX8_puts_66 : decode cX8_puts 66 = .ok (.ireturn, 1) := dk_172 (dk_at dksX8_puts_2 19 rfl rfl)
theorem dX8_puts_67 : decode cX8_puts 67 = .ok (.aload_n 0, 1) := dk_42 (dk_at dksX8_puts_2 20 rfl rfl)
theorem dX8_puts_68 : decode cX8_puts 68 = .ok (.getfield 37, 3) := dk_180 0 37 (dk_at dksX8_puts_2 21 rfl rfl)
theorem dX8_puts_71 : decode cX8_puts 71 = .ok (.bipush 16, 2) := dk_16 16 (dk_at dksX8_puts_3 0 rfl rfl)
theorem dX8_puts_73 : decode cX8_puts 73 = .ok (.iload_n 2, 1) := dk_28 (dk_at dksX8_puts_3 2 rfl rfl)
theorem dX8_puts_74 : decode cX8_puts 74 = .ok (.iadd, 1) := dk_96 (dk_at dksX8_puts_3 3 rfl rfl)
theorem dX8_puts_75 : decode cX8_puts 75 = .ok (.iload_n 3, 1) := dk_29 (dk_at dksX8_puts_3 4 rfl rfl)
theorem dX8_puts_76 : decode cX8_puts 76 = .ok (.iastore, 1) := dk_79 (dk_at dksX8_puts_3 5 rfl rfl)
theorem dX8_puts_77 : decode cX8_puts 77 = .ok (.aload_n 0, 1) := dk_42 (dk_at dksX8_puts_3 6 rfl rfl)
theorem dX8_puts_78 : decode cX8_puts 78 = .ok (.getfield 37, 3) := dk_180 0 37 (dk_at dksX8_puts_3 7 rfl rfl)
theorem dX8_puts_81 : decode cX8_puts 81 = .ok (.bipush 21, 2) := dk_16 21 (dk_at dksX8_puts_3 10 rfl rfl)
theorem dX8_puts_83 : decode cX8_puts 83 = .ok (.iload_n 2, 1) := dk_28 (dk_at dksX8_puts_3 12 rfl rfl)
theorem dX8_puts_84 : decode cX8_puts 84 = .ok (.iadd, 1) := dk_96 (dk_at dksX8_puts_3 13 rfl rfl)
theorem dX8_puts_85 : decode cX8_puts 85 = .ok (.iload 4, 2) := dk_21 4 (dk_at dksX8_puts_3 14 rfl rfl)
theorem dX8_puts_87 : decode cX8_puts 87 = .ok (.ifCond .eq 7, 3) := dk_153 0 7 (dk_at dksX8_puts_3 16 rfl rfl)
theorem dX8_puts_90 : decode cX8_puts 90 = .ok (.iconst 1, 1) := dk_4 (dk_at dksX8_puts_3 19 rfl rfl)
theorem dX8_puts_91 : decode cX8_puts 91 = .ok (.goto 4, 3) := dk_167 0 4 (dk_at dksX8_puts_3 20 rfl rfl)
theorem dX8_puts_94 : decode cX8_puts 94 = .ok (.iconst 0, 1) := dk_3 (dk_at dksX8_puts_3 23 rfl rfl)
theorem dX8_puts_95 : decode cX8_puts 95 = .ok (.iastore, 1) := dk_79 (dk_at dksX8_puts_4 0 rfl rfl)
theorem dX8_puts_96 : decode cX8_puts 96 = .ok (.aload_n 0, 1) := dk_42 (dk_at dksX8_puts_4 1 rfl rfl)
theorem dX8_puts_97 : decode cX8_puts 97 = .ok (.getfield 37, 3) := dk_180 0 37 (dk_at dksX8_puts_4 2 rfl rfl)
theorem dX8_puts_100 : decode cX8_puts 100 = .ok (.bipush 26, 2) := dk_16 26 (dk_at dksX8_puts_4 5 rfl rfl)
theorem dX8_puts_102 : decode cX8_puts 102 = .ok (.iload_n 2, 1) := dk_28 (dk_at dksX8_puts_4 7 rfl rfl)
theorem dX8_puts_103 : decode cX8_puts 103 = .ok (.iadd, 1) := dk_96 (dk_at dksX8_puts_4 8 rfl rfl)
theorem dX8_puts_104 : decode cX8_puts 104 = .ok (.aload_n 0, 1) := dk_42 (dk_at dksX8_puts_4 9 rfl rfl)
theorem dX8_puts_105 : decode cX8_puts 105 = .ok (.getfield 173, 3) := dk_180 0 173 (dk_at dksX8_puts_4 10 rfl rfl)
theorem dX8_puts_108 : decode cX8_puts 108 = .ok (.iastore, 1) := dk_79 (dk_at dksX8_puts_4 13 rfl rfl)
theorem dX8_puts_109 : decode cX8_puts 109 = .ok (.iconst 1, 1) := dk_4 (dk_at dksX8_puts_4 14 rfl rfl)
theorem dX8_puts_110 : decode cX8_puts 110 = .ok (.ireturn, 1) := dk_172 (dk_at dksX8_puts_4 15 rfl rfl)
abbrev cX8_meets : ByteArray := prog_15_method_47_code
def yX8_meets : MethodName := ⟨RX8, "meets", "(I)Z"⟩
def dkwX8_meets_8 : List UInt8 := [132, 4, 1, 167, 255, 158, 4, 172]
abbrev dktX8_meets_8 : List UInt8 := dkwX8_meets_8 ++ []
def dkwX8_meets_7 : List UInt8 := [167, 0, 13, 42, 180, 0, 37, 16, 8, 21, 4, 96, 46, 79, 42, 180, 0, 37, 3, 21, 4, 96, 5, 79]
abbrev dktX8_meets_7 : List UInt8 := dkwX8_meets_7 ++ dktX8_meets_8
def dkwX8_meets_6 : List UInt8 := [180, 0, 37, 3, 21, 4, 96, 46, 154, 0, 18, 42, 180, 0, 43, 28, 16, 8, 96, 21, 4, 96, 46]
abbrev dktX8_meets_6 : List UInt8 := dkwX8_meets_6 ++ dktX8_meets_7
def dkwX8_meets_5 : List UInt8 := [42, 180, 0, 37, 3, 21, 4, 96, 46, 159, 0, 60, 42, 180, 0, 37, 16, 8, 21, 4, 96, 42]
abbrev dktX8_meets_5 : List UInt8 := dkwX8_meets_5 ++ dktX8_meets_6
def dkwX8_meets_4 : List UInt8 := [42, 180, 0, 9, 3, 46, 162, 0, 93, 42, 180, 0, 43, 28, 3, 96, 21, 4, 96, 46, 54, 5, 21, 5]
abbrev dktX8_meets_4 : List UInt8 := dkwX8_meets_4 ++ dktX8_meets_5
def dkwX8_meets_3 : List UInt8 := [132, 4, 255, 167, 255, 205, 29, 155, 0, 12, 42, 16, 8, 27, 29, 182, 0, 188, 172, 3, 54, 4, 21, 4]
abbrev dktX8_meets_3 : List UInt8 := dkwX8_meets_3 ++ dktX8_meets_4
def dkwX8_meets_2 : List UInt8 := [21, 4, 96, 46, 42, 180, 0, 37, 3, 21, 4, 96, 46, 159, 0, 8, 21, 4, 167, 0, 4, 29, 62]
abbrev dktX8_meets_2 : List UInt8 := dkwX8_meets_2 ++ dktX8_meets_3
def dkwX8_meets_1 : List UInt8 := [155, 0, 52, 42, 180, 0, 9, 16, 21, 21, 4, 96, 46, 154, 0, 31, 42, 180, 0, 43, 28, 3, 96]
abbrev dktX8_meets_1 : List UInt8 := dkwX8_meets_1 ++ dktX8_meets_2
def dkwX8_meets_0 : List UInt8 := [16, 31, 42, 180, 0, 173, 4, 96, 104, 61, 2, 62, 42, 180, 0, 9, 3, 46, 4, 100, 54, 4, 21, 4]
abbrev dktX8_meets_0 : List UInt8 := dkwX8_meets_0 ++ dktX8_meets_1
theorem dksX8_meets_0 : cX8_meets.data.toList.drop 0 = dktX8_meets_0 := by decide +kernel
theorem dksX8_meets_1 : cX8_meets.data.toList.drop 24 = dktX8_meets_1 := dk_seg dksX8_meets_0 24 rfl rfl
theorem dksX8_meets_2 : cX8_meets.data.toList.drop 47 = dktX8_meets_2 := dk_seg dksX8_meets_1 23 rfl rfl
theorem dksX8_meets_3 : cX8_meets.data.toList.drop 70 = dktX8_meets_3 := dk_seg dksX8_meets_2 23 rfl rfl
theorem dksX8_meets_4 : cX8_meets.data.toList.drop 94 = dktX8_meets_4 := dk_seg dksX8_meets_3 24 rfl rfl
theorem dksX8_meets_5 : cX8_meets.data.toList.drop 118 = dktX8_meets_5 := dk_seg dksX8_meets_4 24 rfl rfl
theorem dksX8_meets_6 : cX8_meets.data.toList.drop 140 = dktX8_meets_6 := dk_seg dksX8_meets_5 22 rfl rfl
theorem dksX8_meets_7 : cX8_meets.data.toList.drop 163 = dktX8_meets_7 := dk_seg dksX8_meets_6 23 rfl rfl
theorem dksX8_meets_8 : cX8_meets.data.toList.drop 187 = dktX8_meets_8 := dk_seg dksX8_meets_7 24 rfl rfl
theorem dX8_meets_0 : decode cX8_meets 0 = .ok (.bipush 31, 2) := dk_16 31 (dk_at dksX8_meets_0 0 rfl rfl)
theorem dX8_meets_2 : decode cX8_meets 2 = .ok (.aload_n 0, 1) := dk_42 (dk_at dksX8_meets_0 2 rfl rfl)
theorem dX8_meets_3 : decode cX8_meets 3 = .ok (.getfield 173, 3) := dk_180 0 173 (dk_at dksX8_meets_0 3 rfl rfl)
theorem dX8_meets_6 : decode cX8_meets 6 = .ok (.iconst 1, 1) := dk_4 (dk_at dksX8_meets_0 6 rfl rfl)
theorem dX8_meets_7 : decode cX8_meets 7 = .ok (.iadd, 1) := dk_96 (dk_at dksX8_meets_0 7 rfl rfl)
theorem dX8_meets_8 : decode cX8_meets 8 = .ok (.imul, 1) := dk_104 (dk_at dksX8_meets_0 8 rfl rfl)
theorem dX8_meets_9 : decode cX8_meets 9 = .ok (.istore_n 2, 1) := dk_61 (dk_at dksX8_meets_0 9 rfl rfl)
theorem dX8_meets_10 : decode cX8_meets 10 = .ok (.iconst (-1), 1) := dk_2 (dk_at dksX8_meets_0 10 rfl rfl)
theorem dX8_meets_11 : decode cX8_meets 11 = .ok (.istore_n 3, 1) := dk_62 (dk_at dksX8_meets_0 11 rfl rfl)
theorem dX8_meets_12 : decode cX8_meets 12 = .ok (.aload_n 0, 1) := dk_42 (dk_at dksX8_meets_0 12 rfl rfl)
theorem dX8_meets_13 : decode cX8_meets 13 = .ok (.getfield 9, 3) := dk_180 0 9 (dk_at dksX8_meets_0 13 rfl rfl)
theorem dX8_meets_16 : decode cX8_meets 16 = .ok (.iconst 0, 1) := dk_3 (dk_at dksX8_meets_0 16 rfl rfl)
theorem dX8_meets_17 : decode cX8_meets 17 = .ok (.iaload, 1) := dk_46 (dk_at dksX8_meets_0 17 rfl rfl)
theorem dX8_meets_18 : decode cX8_meets 18 = .ok (.iconst 1, 1) := dk_4 (dk_at dksX8_meets_0 18 rfl rfl)
theorem dX8_meets_19 : decode cX8_meets 19 = .ok (.isub, 1) := dk_100 (dk_at dksX8_meets_0 19 rfl rfl)
theorem dX8_meets_20 : decode cX8_meets 20 = .ok (.istore 4, 2) := dk_54 4 (dk_at dksX8_meets_0 20 rfl rfl)
theorem dX8_meets_22 : decode cX8_meets 22 = .ok (.iload 4, 2) := dk_21 4 (dk_at dksX8_meets_0 22 rfl rfl)
theorem dX8_meets_24 : decode cX8_meets 24 = .ok (.ifCond .lt 52, 3) := dk_155 0 52 (dk_at dksX8_meets_1 0 rfl rfl)
theorem dX8_meets_27 : decode cX8_meets 27 = .ok (.aload_n 0, 1) := dk_42 (dk_at dksX8_meets_1 3 rfl rfl)
theorem dX8_meets_28 : decode cX8_meets 28 = .ok (.getfield 9, 3) := dk_180 0 9 (dk_at dksX8_meets_1 4 rfl rfl)
theorem dX8_meets_31 : decode cX8_meets 31 = .ok (.bipush 21, 2) := dk_16 21 (dk_at dksX8_meets_1 7 rfl rfl)
theorem dX8_meets_33 : decode cX8_meets 33 = .ok (.iload 4, 2) := dk_21 4 (dk_at dksX8_meets_1 9 rfl rfl)
theorem dX8_meets_35 : decode cX8_meets 35 = .ok (.iadd, 1) := dk_96 (dk_at dksX8_meets_1 11 rfl rfl)
theorem dX8_meets_36 : decode cX8_meets 36 = .ok (.iaload, 1) := dk_46 (dk_at dksX8_meets_1 12 rfl rfl)
theorem dX8_meets_37 : decode cX8_meets 37 = .ok (.ifCond .ne 31, 3) := dk_154 0 31 (dk_at dksX8_meets_1 13 rfl rfl)
theorem dX8_meets_40 : decode cX8_meets 40 = .ok (.aload_n 0, 1) := dk_42 (dk_at dksX8_meets_1 16 rfl rfl)
theorem dX8_meets_41 : decode cX8_meets 41 = .ok (.getfield 43, 3) := dk_180 0 43 (dk_at dksX8_meets_1 17 rfl rfl)
theorem dX8_meets_44 : decode cX8_meets 44 = .ok (.iload_n 2, 1) := dk_28 (dk_at dksX8_meets_1 20 rfl rfl)
theorem dX8_meets_45 : decode cX8_meets 45 = .ok (.iconst 0, 1) := dk_3 (dk_at dksX8_meets_1 21 rfl rfl)
theorem dX8_meets_46 : decode cX8_meets 46 = .ok (.iadd, 1) := dk_96 (dk_at dksX8_meets_1 22 rfl rfl)
theorem dX8_meets_47 : decode cX8_meets 47 = .ok (.iload 4, 2) := dk_21 4 (dk_at dksX8_meets_2 0 rfl rfl)
theorem dX8_meets_49 : decode cX8_meets 49 = .ok (.iadd, 1) := dk_96 (dk_at dksX8_meets_2 2 rfl rfl)
theorem dX8_meets_50 : decode cX8_meets 50 = .ok (.iaload, 1) := dk_46 (dk_at dksX8_meets_2 3 rfl rfl)
theorem dX8_meets_51 : decode cX8_meets 51 = .ok (.aload_n 0, 1) := dk_42 (dk_at dksX8_meets_2 4 rfl rfl)
theorem dX8_meets_52 : decode cX8_meets 52 = .ok (.getfield 37, 3) := dk_180 0 37 (dk_at dksX8_meets_2 5 rfl rfl)
theorem dX8_meets_55 : decode cX8_meets 55 = .ok (.iconst 0, 1) := dk_3 (dk_at dksX8_meets_2 8 rfl rfl)
theorem dX8_meets_56 : decode cX8_meets 56 = .ok (.iload 4, 2) := dk_21 4 (dk_at dksX8_meets_2 9 rfl rfl)
theorem dX8_meets_58 : decode cX8_meets 58 = .ok (.iadd, 1) := dk_96 (dk_at dksX8_meets_2 11 rfl rfl)
theorem dX8_meets_59 : decode cX8_meets 59 = .ok (.iaload, 1) := dk_46 (dk_at dksX8_meets_2 12 rfl rfl)
theorem dX8_meets_60 : decode cX8_meets 60 = .ok (.if_icmp .eq 8, 3) := dk_159 0 8 (dk_at dksX8_meets_2 13 rfl rfl)
theorem dX8_meets_63 : decode cX8_meets 63 = .ok (.iload 4, 2) := dk_21 4 (dk_at dksX8_meets_2 16 rfl rfl)
theorem dX8_meets_65 : decode cX8_meets 65 = .ok (.goto 4, 3) := dk_167 0 4 (dk_at dksX8_meets_2 18 rfl rfl)
theorem dX8_meets_68 : decode cX8_meets 68 = .ok (.iload_n 3, 1) := dk_29 (dk_at dksX8_meets_2 21 rfl rfl)
theorem dX8_meets_69 : decode cX8_meets 69 = .ok (.istore_n 3, 1) := dk_62 (dk_at dksX8_meets_2 22 rfl rfl)
theorem dX8_meets_70 : decode cX8_meets 70 = .ok (.iinc 4 (-1), 3) := dk_132 4 255 (dk_at dksX8_meets_3 0 rfl rfl)
theorem dX8_meets_73 : decode cX8_meets 73 = .ok (.goto (-51), 3) := dk_167 255 205 (dk_at dksX8_meets_3 3 rfl rfl)
theorem dX8_meets_76 : decode cX8_meets 76 = .ok (.iload_n 3, 1) := dk_29 (dk_at dksX8_meets_3 6 rfl rfl)
theorem dX8_meets_77 : decode cX8_meets 77 = .ok (.ifCond .lt 12, 3) := dk_155 0 12 (dk_at dksX8_meets_3 7 rfl rfl)
theorem dX8_meets_80 : decode cX8_meets 80 = .ok (.aload_n 0, 1) := dk_42 (dk_at dksX8_meets_3 10 rfl rfl)
theorem dX8_meets_81 : decode cX8_meets 81 = .ok (.bipush 8, 2) := dk_16 8 (dk_at dksX8_meets_3 11 rfl rfl)
theorem dX8_meets_83 : decode cX8_meets 83 = .ok (.iload_n 1, 1) := dk_27 (dk_at dksX8_meets_3 13 rfl rfl)
theorem dX8_meets_84 : decode cX8_meets 84 = .ok (.iload_n 3, 1) := dk_29 (dk_at dksX8_meets_3 14 rfl rfl)
theorem dX8_meets_85 : decode cX8_meets 85 = .ok (.invokevirtual 188, 3) := dk_182 0 188 (dk_at dksX8_meets_3 15 rfl rfl)
theorem dX8_meets_88 : decode cX8_meets 88 = .ok (.ireturn, 1) := dk_172 (dk_at dksX8_meets_3 18 rfl rfl)
theorem dX8_meets_89 : decode cX8_meets 89 = .ok (.iconst 0, 1) := dk_3 (dk_at dksX8_meets_3 19 rfl rfl)
theorem dX8_meets_90 : decode cX8_meets 90 = .ok (.istore 4, 2) := dk_54 4 (dk_at dksX8_meets_3 20 rfl rfl)
theorem dX8_meets_92 : decode cX8_meets 92 = .ok (.iload 4, 2) := dk_21 4 (dk_at dksX8_meets_3 22 rfl rfl)
theorem dX8_meets_94 : decode cX8_meets 94 = .ok (.aload_n 0, 1) := dk_42 (dk_at dksX8_meets_4 0 rfl rfl)
theorem dX8_meets_95 : decode cX8_meets 95 = .ok (.getfield 9, 3) := dk_180 0 9 (dk_at dksX8_meets_4 1 rfl rfl)
theorem dX8_meets_98 : decode cX8_meets 98 = .ok (.iconst 0, 1) := dk_3 (dk_at dksX8_meets_4 4 rfl rfl)
theorem dX8_meets_99 : decode cX8_meets 99 = .ok (.iaload, 1) := dk_46 (dk_at dksX8_meets_4 5 rfl rfl)
theorem dX8_meets_100 : decode cX8_meets 100 = .ok (.if_icmp .ge 93, 3) := dk_162 0 93 (dk_at dksX8_meets_4 6 rfl rfl)
theorem dX8_meets_103 : decode cX8_meets 103 = .ok (.aload_n 0, 1) := dk_42 (dk_at dksX8_meets_4 9 rfl rfl)
theorem dX8_meets_104 : decode cX8_meets 104 = .ok (.getfield 43, 3) := dk_180 0 43 (dk_at dksX8_meets_4 10 rfl rfl)
theorem dX8_meets_107 : decode cX8_meets 107 = .ok (.iload_n 2, 1) := dk_28 (dk_at dksX8_meets_4 13 rfl rfl)
theorem dX8_meets_108 : decode cX8_meets 108 = .ok (.iconst 0, 1) := dk_3 (dk_at dksX8_meets_4 14 rfl rfl)
theorem dX8_meets_109 : decode cX8_meets 109 = .ok (.iadd, 1) := dk_96 (dk_at dksX8_meets_4 15 rfl rfl)
theorem dX8_meets_110 : decode cX8_meets 110 = .ok (.iload 4, 2) := dk_21 4 (dk_at dksX8_meets_4 16 rfl rfl)
theorem dX8_meets_112 : decode cX8_meets 112 = .ok (.iadd, 1) := dk_96 (dk_at dksX8_meets_4 18 rfl rfl)
theorem dX8_meets_113 : decode cX8_meets 113 = .ok (.iaload, 1) := dk_46 (dk_at dksX8_meets_4 19 rfl rfl)
theorem dX8_meets_114 : decode cX8_meets 114 = .ok (.istore 5, 2) := dk_54 5 (dk_at dksX8_meets_4 20 rfl rfl)
theorem dX8_meets_116 : decode cX8_meets 116 = .ok (.iload 5, 2) := dk_21 5 (dk_at dksX8_meets_4 22 rfl rfl)
theorem dX8_meets_118 : decode cX8_meets 118 = .ok (.aload_n 0, 1) := dk_42 (dk_at dksX8_meets_5 0 rfl rfl)
theorem dX8_meets_119 : decode cX8_meets 119 = .ok (.getfield 37, 3) := dk_180 0 37 (dk_at dksX8_meets_5 1 rfl rfl)
theorem dX8_meets_122 : decode cX8_meets 122 = .ok (.iconst 0, 1) := dk_3 (dk_at dksX8_meets_5 4 rfl rfl)
theorem dX8_meets_123 : decode cX8_meets 123 = .ok (.iload 4, 2) := dk_21 4 (dk_at dksX8_meets_5 5 rfl rfl)
theorem dX8_meets_125 : decode cX8_meets 125 = .ok (.iadd, 1) := dk_96 (dk_at dksX8_meets_5 7 rfl rfl)
theorem dX8_meets_126 : decode cX8_meets 126 = .ok (.iaload, 1) := dk_46 (dk_at dksX8_meets_5 8 rfl rfl)
theorem dX8_meets_127 : decode cX8_meets 127 = .ok (.if_icmp .eq 60, 3) := dk_159 0 60 (dk_at dksX8_meets_5 9 rfl rfl)
theorem dX8_meets_130 : decode cX8_meets 130 = .ok (.aload_n 0, 1) := dk_42 (dk_at dksX8_meets_5 12 rfl rfl)
theorem dX8_meets_131 : decode cX8_meets 131 = .ok (.getfield 37, 3) := dk_180 0 37 (dk_at dksX8_meets_5 13 rfl rfl)
theorem dX8_meets_134 : decode cX8_meets 134 = .ok (.bipush 8, 2) := dk_16 8 (dk_at dksX8_meets_5 16 rfl rfl)
theorem dX8_meets_136 : decode cX8_meets 136 = .ok (.iload 4, 2) := dk_21 4 (dk_at dksX8_meets_5 18 rfl rfl)
theorem dX8_meets_138 : decode cX8_meets 138 = .ok (.iadd, 1) := dk_96 (dk_at dksX8_meets_5 20 rfl rfl)
theorem dX8_meets_139 : decode cX8_meets 139 = .ok (.aload_n 0, 1) := dk_42 (dk_at dksX8_meets_5 21 rfl rfl)
theorem dX8_meets_140 : decode cX8_meets 140 = .ok (.getfield 37, 3) := dk_180 0 37 (dk_at dksX8_meets_6 0 rfl rfl)
theorem dX8_meets_143 : decode cX8_meets 143 = .ok (.iconst 0, 1) := dk_3 (dk_at dksX8_meets_6 3 rfl rfl)
theorem dX8_meets_144 : decode cX8_meets 144 = .ok (.iload 4, 2) := dk_21 4 (dk_at dksX8_meets_6 4 rfl rfl)
theorem dX8_meets_146 : decode cX8_meets 146 = .ok (.iadd, 1) := dk_96 (dk_at dksX8_meets_6 6 rfl rfl)
theorem dX8_meets_147 : decode cX8_meets 147 = .ok (.iaload, 1) := dk_46 (dk_at dksX8_meets_6 7 rfl rfl)
theorem dX8_meets_148 : decode cX8_meets 148 = .ok (.ifCond .ne 18, 3) := dk_154 0 18 (dk_at dksX8_meets_6 8 rfl rfl)
theorem dX8_meets_151 : decode cX8_meets 151 = .ok (.aload_n 0, 1) := dk_42 (dk_at dksX8_meets_6 11 rfl rfl)
theorem dX8_meets_152 : decode cX8_meets 152 = .ok (.getfield 43, 3) := dk_180 0 43 (dk_at dksX8_meets_6 12 rfl rfl)
theorem dX8_meets_155 : decode cX8_meets 155 = .ok (.iload_n 2, 1) := dk_28 (dk_at dksX8_meets_6 15 rfl rfl)
theorem dX8_meets_156 : decode cX8_meets 156 = .ok (.bipush 8, 2) := dk_16 8 (dk_at dksX8_meets_6 16 rfl rfl)
theorem dX8_meets_158 : decode cX8_meets 158 = .ok (.iadd, 1) := dk_96 (dk_at dksX8_meets_6 18 rfl rfl)
theorem dX8_meets_159 : decode cX8_meets 159 = .ok (.iload 4, 2) := dk_21 4 (dk_at dksX8_meets_6 19 rfl rfl)
theorem dX8_meets_161 : decode cX8_meets 161 = .ok (.iadd, 1) := dk_96 (dk_at dksX8_meets_6 21 rfl rfl)
theorem dX8_meets_162 : decode cX8_meets 162 = .ok (.iaload, 1) := dk_46 (dk_at dksX8_meets_6 22 rfl rfl)
theorem dX8_meets_163 : decode cX8_meets 163 = .ok (.goto 13, 3) := dk_167 0 13 (dk_at dksX8_meets_7 0 rfl rfl)
theorem dX8_meets_166 : decode cX8_meets 166 = .ok (.aload_n 0, 1) := dk_42 (dk_at dksX8_meets_7 3 rfl rfl)
theorem dX8_meets_167 : decode cX8_meets 167 = .ok (.getfield 37, 3) := dk_180 0 37 (dk_at dksX8_meets_7 4 rfl rfl)
theorem dX8_meets_170 : decode cX8_meets 170 = .ok (.bipush 8, 2) := dk_16 8 (dk_at dksX8_meets_7 7 rfl rfl)
theorem dX8_meets_172 : decode cX8_meets 172 = .ok (.iload 4, 2) := dk_21 4 (dk_at dksX8_meets_7 9 rfl rfl)
theorem dX8_meets_174 : decode cX8_meets 174 = .ok (.iadd, 1) := dk_96 (dk_at dksX8_meets_7 11 rfl rfl)
theorem dX8_meets_175 : decode cX8_meets 175 = .ok (.iaload, 1) := dk_46 (dk_at dksX8_meets_7 12 rfl rfl)
theorem dX8_meets_176 : decode cX8_meets 176 = .ok (.iastore, 1) := dk_79 (dk_at dksX8_meets_7 13 rfl rfl)
theorem dX8_meets_177 : decode cX8_meets 177 = .ok (.aload_n 0, 1) := dk_42 (dk_at dksX8_meets_7 14 rfl rfl)
theorem dX8_meets_178 : decode cX8_meets 178 = .ok (.getfield 37, 3) := dk_180 0 37 (dk_at dksX8_meets_7 15 rfl rfl)
theorem dX8_meets_181 : decode cX8_meets 181 = .ok (.iconst 0, 1) := dk_3 (dk_at dksX8_meets_7 18 rfl rfl)
theorem dX8_meets_182 : decode cX8_meets 182 = .ok (.iload 4, 2) := dk_21 4 (dk_at dksX8_meets_7 19 rfl rfl)
theorem dX8_meets_184 : decode cX8_meets 184 = .ok (.iadd, 1) := dk_96 (dk_at dksX8_meets_7 21 rfl rfl)
theorem dX8_meets_185 : decode cX8_meets 185 = .ok (.iconst 2, 1) := dk_5 (dk_at dksX8_meets_7 22 rfl rfl)
theorem dX8_meets_186 : decode cX8_meets 186 = .ok (.iastore, 1) := dk_79 (dk_at dksX8_meets_7 23 rfl rfl)
theorem dX8_meets_187 : decode cX8_meets 187 = .ok (.iinc 4 1, 3) := dk_132 4 1 (dk_at dksX8_meets_8 0 rfl rfl)
theorem dX8_meets_190 : decode cX8_meets 190 = .ok (.goto (-98), 3) := dk_167 255 158 (dk_at dksX8_meets_8 3 rfl rfl)
theorem dX8_meets_193 : decode cX8_meets 193 = .ok (.iconst 1, 1) := dk_4 (dk_at dksX8_meets_8 6 rfl rfl)
theorem dX8_meets_194 : decode cX8_meets 194 = .ok (.ireturn, 1) := dk_172 (dk_at dksX8_meets_8 7 rfl rfl)
abbrev cX8_finishes : ByteArray := prog_15_method_50_code
def yX8_finishes : MethodName := ⟨RX8, "finishes", "()V"⟩
def dkwX8_finishes_2 : List UInt8 := [27, 42, 3, 182, 0, 185, 182, 0, 188, 61, 177]
abbrev dktX8_finishes_2 : List UInt8 := dkwX8_finishes_2 ++ []
def dkwX8_finishes_1 : List UInt8 := [180, 0, 173, 4, 100, 46, 182, 0, 188, 61, 167, 0, 24, 42, 3, 182, 0, 185, 155, 0, 16, 42, 16, 7]
abbrev dktX8_finishes_1 : List UInt8 := dkwX8_finishes_1 ++ dktX8_finishes_2
def dkwX8_finishes_0 : List UInt8 := [42, 180, 0, 9, 4, 46, 60, 4, 61, 42, 180, 0, 173, 158, 0, 24, 42, 4, 27, 42, 180, 0, 22, 42]
abbrev dktX8_finishes_0 : List UInt8 := dkwX8_finishes_0 ++ dktX8_finishes_1
theorem dksX8_finishes_0 : cX8_finishes.data.toList.drop 0 = dktX8_finishes_0 := by decide +kernel
theorem dksX8_finishes_1 : cX8_finishes.data.toList.drop 24 = dktX8_finishes_1 := dk_seg dksX8_finishes_0 24 rfl rfl
theorem dksX8_finishes_2 : cX8_finishes.data.toList.drop 48 = dktX8_finishes_2 := dk_seg dksX8_finishes_1 24 rfl rfl
theorem dX8_finishes_0 : decode cX8_finishes 0 = .ok (.aload_n 0, 1) := dk_42 (dk_at dksX8_finishes_0 0 rfl rfl)
theorem dX8_finishes_1 : decode cX8_finishes 1 = .ok (.getfield 9, 3) := dk_180 0 9 (dk_at dksX8_finishes_0 1 rfl rfl)
theorem dX8_finishes_4 : decode cX8_finishes 4 = .ok (.iconst 1, 1) := dk_4 (dk_at dksX8_finishes_0 4 rfl rfl)
theorem dX8_finishes_5 : decode cX8_finishes 5 = .ok (.iaload, 1) := dk_46 (dk_at dksX8_finishes_0 5 rfl rfl)
theorem dX8_finishes_6 : decode cX8_finishes 6 = .ok (.istore_n 1, 1) := dk_60 (dk_at dksX8_finishes_0 6 rfl rfl)
theorem dX8_finishes_7 : decode cX8_finishes 7 = .ok (.iconst 1, 1) := dk_4 (dk_at dksX8_finishes_0 7 rfl rfl)
theorem dX8_finishes_8 : decode cX8_finishes 8 = .ok (.istore_n 2, 1) := dk_61 (dk_at dksX8_finishes_0 8 rfl rfl)
theorem dX8_finishes_9 : decode cX8_finishes 9 = .ok (.aload_n 0, 1) := dk_42 (dk_at dksX8_finishes_0 9 rfl rfl)
theorem dX8_finishes_10 : decode cX8_finishes 10 = .ok (.getfield 173, 3) := dk_180 0 173 (dk_at dksX8_finishes_0 10 rfl rfl)
theorem dX8_finishes_13 : decode cX8_finishes 13 = .ok (.ifCond .le 24, 3) := dk_158 0 24 (dk_at dksX8_finishes_0 13 rfl rfl)
theorem dX8_finishes_16 : decode cX8_finishes 16 = .ok (.aload_n 0, 1) := dk_42 (dk_at dksX8_finishes_0 16 rfl rfl)
theorem dX8_finishes_17 : decode cX8_finishes 17 = .ok (.iconst 1, 1) := dk_4 (dk_at dksX8_finishes_0 17 rfl rfl)
theorem dX8_finishes_18 : decode cX8_finishes 18 = .ok (.iload_n 1, 1) := dk_27 (dk_at dksX8_finishes_0 18 rfl rfl)
theorem dX8_finishes_19 : decode cX8_finishes 19 = .ok (.aload_n 0, 1) := dk_42 (dk_at dksX8_finishes_0 19 rfl rfl)
theorem dX8_finishes_20 : decode cX8_finishes 20 = .ok (.getfield 22, 3) := dk_180 0 22 (dk_at dksX8_finishes_0 20 rfl rfl)
theorem dX8_finishes_23 : decode cX8_finishes 23 = .ok (.aload_n 0, 1) := dk_42 (dk_at dksX8_finishes_0 23 rfl rfl)
theorem dX8_finishes_24 : decode cX8_finishes 24 = .ok (.getfield 173, 3) := dk_180 0 173 (dk_at dksX8_finishes_1 0 rfl rfl)
theorem dX8_finishes_27 : decode cX8_finishes 27 = .ok (.iconst 1, 1) := dk_4 (dk_at dksX8_finishes_1 3 rfl rfl)
theorem dX8_finishes_28 : decode cX8_finishes 28 = .ok (.isub, 1) := dk_100 (dk_at dksX8_finishes_1 4 rfl rfl)
theorem dX8_finishes_29 : decode cX8_finishes 29 = .ok (.iaload, 1) := dk_46 (dk_at dksX8_finishes_1 5 rfl rfl)
theorem dX8_finishes_30 : decode cX8_finishes 30 = .ok (.invokevirtual 188, 3) := dk_182 0 188 (dk_at dksX8_finishes_1 6 rfl rfl)
theorem dX8_finishes_33 : decode cX8_finishes 33 = .ok (.istore_n 2, 1) := dk_61 (dk_at dksX8_finishes_1 9 rfl rfl)
theorem dX8_finishes_34 : decode cX8_finishes 34 = .ok (.goto 24, 3) := dk_167 0 24 (dk_at dksX8_finishes_1 10 rfl rfl)
theorem dX8_finishes_37 : decode cX8_finishes 37 = .ok (.aload_n 0, 1) := dk_42 (dk_at dksX8_finishes_1 13 rfl rfl)
theorem dX8_finishes_38 : decode cX8_finishes 38 = .ok (.iconst 0, 1) := dk_3 (dk_at dksX8_finishes_1 14 rfl rfl)
theorem dX8_finishes_39 : decode cX8_finishes 39 = .ok (.invokevirtual 185, 3) := dk_182 0 185 (dk_at dksX8_finishes_1 15 rfl rfl)
theorem dX8_finishes_42 : decode cX8_finishes 42 = .ok (.ifCond .lt 16, 3) := dk_155 0 16 (dk_at dksX8_finishes_1 18 rfl rfl)
theorem dX8_finishes_45 : decode cX8_finishes 45 = .ok (.aload_n 0, 1) := dk_42 (dk_at dksX8_finishes_1 21 rfl rfl)
theorem dX8_finishes_46 : decode cX8_finishes 46 = .ok (.bipush 7, 2) := dk_16 7 (dk_at dksX8_finishes_1 22 rfl rfl)
theorem dX8_finishes_48 : decode cX8_finishes 48 = .ok (.iload_n 1, 1) := dk_27 (dk_at dksX8_finishes_2 0 rfl rfl)
theorem dX8_finishes_49 : decode cX8_finishes 49 = .ok (.aload_n 0, 1) := dk_42 (dk_at dksX8_finishes_2 1 rfl rfl)
theorem dX8_finishes_50 : decode cX8_finishes 50 = .ok (.iconst 0, 1) := dk_3 (dk_at dksX8_finishes_2 2 rfl rfl)
theorem dX8_finishes_51 : decode cX8_finishes 51 = .ok (.invokevirtual 185, 3) := dk_182 0 185 (dk_at dksX8_finishes_2 3 rfl rfl)
theorem dX8_finishes_54 : decode cX8_finishes 54 = .ok (.invokevirtual 188, 3) := dk_182 0 188 (dk_at dksX8_finishes_2 6 rfl rfl)
theorem dX8_finishes_57 : decode cX8_finishes 57 = .ok (.istore_n 2, 1) := dk_61 (dk_at dksX8_finishes_2 9 rfl rfl)
theorem dX8_finishes_58 : decode cX8_finishes 58 = .ok (.return_, 1) := dk_177 (dk_at dksX8_finishes_2 10 rfl rfl)
abbrev cX8_isSound : ByteArray := prog_15_method_53_code
def yX8_isSound : MethodName := ⟨RX8, "isSound", "(Z)Z"⟩
def dkwX8_isSound_0 : List UInt8 := [42, 3, 181, 0, 64, 42, 182, 0, 229, 42, 180, 0, 176, 154, 0, 7, 4, 167, 0, 4, 3, 172]
abbrev dktX8_isSound_0 : List UInt8 := dkwX8_isSound_0 ++ []
theorem dksX8_isSound_0 : cX8_isSound.data.toList.drop 0 = dktX8_isSound_0 := by decide +kernel
theorem dX8_isSound_0 : decode cX8_isSound 0 = .ok (.aload_n 0, 1) := dk_42 (dk_at dksX8_isSound_0 0 rfl rfl)
theorem dX8_isSound_1 : decode cX8_isSound 1 = .ok (.iconst 0, 1) := dk_3 (dk_at dksX8_isSound_0 1 rfl rfl)
theorem dX8_isSound_2 : decode cX8_isSound 2 = .ok (.putfield 64, 3) := dk_181 0 64 (dk_at dksX8_isSound_0 2 rfl rfl)
theorem dX8_isSound_5 : decode cX8_isSound 5 = .ok (.aload_n 0, 1) := dk_42 (dk_at dksX8_isSound_0 5 rfl rfl)
theorem dX8_isSound_6 : decode cX8_isSound 6 = .ok (.invokevirtual 229, 3) := dk_182 0 229 (dk_at dksX8_isSound_0 6 rfl rfl)
theorem dX8_isSound_9 : decode cX8_isSound 9 = .ok (.aload_n 0, 1) := dk_42 (dk_at dksX8_isSound_0 9 rfl rfl)
theorem dX8_isSound_10 : decode cX8_isSound 10 = .ok (.getfield 176, 3) := dk_180 0 176 (dk_at dksX8_isSound_0 10 rfl rfl)
theorem dX8_isSound_13 : decode cX8_isSound 13 = .ok (.ifCond .ne 7, 3) := dk_154 0 7 (dk_at dksX8_isSound_0 13 rfl rfl)
theorem dX8_isSound_16 : decode cX8_isSound 16 = .ok (.iconst 1, 1) := dk_4 (dk_at dksX8_isSound_0 16 rfl rfl)
theorem dX8_isSound_17 : decode cX8_isSound 17 = .ok (.goto 4, 3) := dk_167 0 4 (dk_at dksX8_isSound_0 17 rfl rfl)
theorem dX8_isSound_20 : decode cX8_isSound 20 = .ok (.iconst 0, 1) := dk_3 (dk_at dksX8_isSound_0 20 rfl rfl)
theorem dX8_isSound_21 : decode cX8_isSound 21 = .ok (.ireturn, 1) := dk_172 (dk_at dksX8_isSound_0 21 rfl rfl)
abbrev cX8_goodAt : ByteArray := prog_15_method_54_code
def yX8_goodAt : MethodName := ⟨RX8, "goodAt", "(II)I"⟩
def dkwX8_goodAt_2 : List UInt8 := [182, 0, 223, 153, 0, 14, 42, 180, 0, 37, 3, 27, 96, 46, 167, 0, 4, 2, 172]
abbrev dktX8_goodAt_2 : List UInt8 := dkwX8_goodAt_2 ++ []
def dkwX8_goodAt_1 : List UInt8 := [154, 0, 7, 5, 167, 0, 4, 3, 181, 0, 64, 42, 180, 0, 64, 158, 0, 5, 3, 172, 42, 28]
abbrev dktX8_goodAt_1 : List UInt8 := dkwX8_goodAt_1 ++ dktX8_goodAt_2
def dkwX8_goodAt_0 : List UInt8 := [42, 42, 27, 182, 0, 100, 154, 0, 7, 4, 167, 0, 22, 28, 3, 42, 180, 0, 9, 4, 46, 184, 0, 82]
abbrev dktX8_goodAt_0 : List UInt8 := dkwX8_goodAt_0 ++ dktX8_goodAt_1
theorem dksX8_goodAt_0 : cX8_goodAt.data.toList.drop 0 = dktX8_goodAt_0 := by decide +kernel
theorem dksX8_goodAt_1 : cX8_goodAt.data.toList.drop 24 = dktX8_goodAt_1 := dk_seg dksX8_goodAt_0 24 rfl rfl
theorem dksX8_goodAt_2 : cX8_goodAt.data.toList.drop 46 = dktX8_goodAt_2 := dk_seg dksX8_goodAt_1 22 rfl rfl
theorem dX8_goodAt_0 : decode cX8_goodAt 0 = .ok (.aload_n 0, 1) := dk_42 (dk_at dksX8_goodAt_0 0 rfl rfl)
theorem dX8_goodAt_1 : decode cX8_goodAt 1 = .ok (.aload_n 0, 1) := dk_42 (dk_at dksX8_goodAt_0 1 rfl rfl)
theorem dX8_goodAt_2 : decode cX8_goodAt 2 = .ok (.iload_n 1, 1) := dk_27 (dk_at dksX8_goodAt_0 2 rfl rfl)
theorem dX8_goodAt_3 : decode cX8_goodAt 3 = .ok (.invokevirtual 100, 3) := dk_182 0 100 (dk_at dksX8_goodAt_0 3 rfl rfl)
theorem dX8_goodAt_6 : decode cX8_goodAt 6 = .ok (.ifCond .ne 7, 3) := dk_154 0 7 (dk_at dksX8_goodAt_0 6 rfl rfl)
theorem dX8_goodAt_9 : decode cX8_goodAt 9 = .ok (.iconst 1, 1) := dk_4 (dk_at dksX8_goodAt_0 9 rfl rfl)
theorem dX8_goodAt_10 : decode cX8_goodAt 10 = .ok (.goto 22, 3) := dk_167 0 22 (dk_at dksX8_goodAt_0 10 rfl rfl)
theorem dX8_goodAt_13 : decode cX8_goodAt 13 = .ok (.iload_n 2, 1) := dk_28 (dk_at dksX8_goodAt_0 13 rfl rfl)
theorem dX8_goodAt_14 : decode cX8_goodAt 14 = .ok (.iconst 0, 1) := dk_3 (dk_at dksX8_goodAt_0 14 rfl rfl)
theorem dX8_goodAt_15 : decode cX8_goodAt 15 = .ok (.aload_n 0, 1) := dk_42 (dk_at dksX8_goodAt_0 15 rfl rfl)
theorem dX8_goodAt_16 : decode cX8_goodAt 16 = .ok (.getfield 9, 3) := dk_180 0 9 (dk_at dksX8_goodAt_0 16 rfl rfl)
theorem dX8_goodAt_19 : decode cX8_goodAt 19 = .ok (.iconst 1, 1) := dk_4 (dk_at dksX8_goodAt_0 19 rfl rfl)
theorem dX8_goodAt_20 : decode cX8_goodAt 20 = .ok (.iaload, 1) := dk_46 (dk_at dksX8_goodAt_0 20 rfl rfl)
theorem dX8_goodAt_21 : decode cX8_goodAt 21 = .ok (.invokestatic 82, 3) := dk_184 0 82 (dk_at dksX8_goodAt_0 21 rfl rfl)
theorem dX8_goodAt_24 : decode cX8_goodAt 24 = .ok (.ifCond .ne 7, 3) := dk_154 0 7 (dk_at dksX8_goodAt_1 0 rfl rfl)
theorem dX8_goodAt_27 : decode cX8_goodAt 27 = .ok (.iconst 2, 1) := dk_5 (dk_at dksX8_goodAt_1 3 rfl rfl)
theorem dX8_goodAt_28 : decode cX8_goodAt 28 = .ok (.goto 4, 3) := dk_167 0 4 (dk_at dksX8_goodAt_1 4 rfl rfl)
theorem dX8_goodAt_31 : decode cX8_goodAt 31 = .ok (.iconst 0, 1) := dk_3 (dk_at dksX8_goodAt_1 7 rfl rfl)
theorem dX8_goodAt_32 : decode cX8_goodAt 32 = .ok (.putfield 64, 3) := dk_181 0 64 (dk_at dksX8_goodAt_1 8 rfl rfl)
theorem dX8_goodAt_35 : decode cX8_goodAt 35 = .ok (.aload_n 0, 1) := dk_42 (dk_at dksX8_goodAt_1 11 rfl rfl)
theorem dX8_goodAt_36 : decode cX8_goodAt 36 = .ok (.getfield 64, 3) := dk_180 0 64 (dk_at dksX8_goodAt_1 12 rfl rfl)
theorem dX8_goodAt_39 : decode cX8_goodAt 39 = .ok (.ifCond .le 5, 3) := dk_158 0 5 (dk_at dksX8_goodAt_1 15 rfl rfl)
theorem dX8_goodAt_42 : decode cX8_goodAt 42 = .ok (.iconst 0, 1) := dk_3 (dk_at dksX8_goodAt_1 18 rfl rfl)
theorem dX8_goodAt_43 : decode cX8_goodAt 43 = .ok (.ireturn, 1) := dk_172 (dk_at dksX8_goodAt_1 19 rfl rfl)
theorem dX8_goodAt_44 : decode cX8_goodAt 44 = .ok (.aload_n 0, 1) := dk_42 (dk_at dksX8_goodAt_1 20 rfl rfl)
theorem dX8_goodAt_45 : decode cX8_goodAt 45 = .ok (.iload_n 2, 1) := dk_28 (dk_at dksX8_goodAt_1 21 rfl rfl)
theorem dX8_goodAt_46 : decode cX8_goodAt 46 = .ok (.invokevirtual 223, 3) := dk_182 0 223 (dk_at dksX8_goodAt_2 0 rfl rfl)
theorem dX8_goodAt_49 : decode cX8_goodAt 49 = .ok (.ifCond .eq 14, 3) := dk_153 0 14 (dk_at dksX8_goodAt_2 3 rfl rfl)
theorem dX8_goodAt_52 : decode cX8_goodAt 52 = .ok (.aload_n 0, 1) := dk_42 (dk_at dksX8_goodAt_2 6 rfl rfl)
theorem dX8_goodAt_53 : decode cX8_goodAt 53 = .ok (.getfield 37, 3) := dk_180 0 37 (dk_at dksX8_goodAt_2 7 rfl rfl)
theorem dX8_goodAt_56 : decode cX8_goodAt 56 = .ok (.iconst 0, 1) := dk_3 (dk_at dksX8_goodAt_2 10 rfl rfl)
theorem dX8_goodAt_57 : decode cX8_goodAt 57 = .ok (.iload_n 1, 1) := dk_27 (dk_at dksX8_goodAt_2 11 rfl rfl)
theorem dX8_goodAt_58 : decode cX8_goodAt 58 = .ok (.iadd, 1) := dk_96 (dk_at dksX8_goodAt_2 12 rfl rfl)
theorem dX8_goodAt_59 : decode cX8_goodAt 59 = .ok (.iaload, 1) := dk_46 (dk_at dksX8_goodAt_2 13 rfl rfl)
theorem dX8_goodAt_60 : decode cX8_goodAt 60 = .ok (.goto 4, 3) := dk_167 0 4 (dk_at dksX8_goodAt_2 14 rfl rfl)
theorem dX8_goodAt_63 : decode cX8_goodAt 63 = .ok (.iconst (-1), 1) := dk_2 (dk_at dksX8_goodAt_2 17 rfl rfl)
theorem dX8_goodAt_64 : decode cX8_goodAt 64 = .ok (.ireturn, 1) := dk_172 (dk_at dksX8_goodAt_2 18 rfl rfl)
abbrev cX8_ploughAt : ByteArray := prog_15_method_55_code
def yX8_ploughAt : MethodName := ⟨RX8, "ploughAt", "(II)I"⟩
def dkwX8_ploughAt_2 : List UInt8 := [28, 182, 0, 223, 153, 0, 15, 42, 180, 0, 37, 16, 16, 27, 96, 46, 167, 0, 5, 16, 254, 172]
abbrev dktX8_ploughAt_2 : List UInt8 := dkwX8_ploughAt_2 ++ []
def dkwX8_ploughAt_1 : List UInt8 := [184, 0, 82, 154, 0, 7, 5, 167, 0, 4, 3, 181, 0, 64, 42, 180, 0, 64, 158, 0, 5, 3, 172, 42]
abbrev dktX8_ploughAt_1 : List UInt8 := dkwX8_ploughAt_1 ++ dktX8_ploughAt_2
def dkwX8_ploughAt_0 : List UInt8 := [42, 27, 3, 7, 184, 0, 82, 154, 0, 7, 4, 167, 0, 22, 28, 3, 42, 180, 0, 9, 4, 46]
abbrev dktX8_ploughAt_0 : List UInt8 := dkwX8_ploughAt_0 ++ dktX8_ploughAt_1
theorem dksX8_ploughAt_0 : cX8_ploughAt.data.toList.drop 0 = dktX8_ploughAt_0 := by decide +kernel
theorem dksX8_ploughAt_1 : cX8_ploughAt.data.toList.drop 22 = dktX8_ploughAt_1 := dk_seg dksX8_ploughAt_0 22 rfl rfl
theorem dksX8_ploughAt_2 : cX8_ploughAt.data.toList.drop 46 = dktX8_ploughAt_2 := dk_seg dksX8_ploughAt_1 24 rfl rfl
theorem dX8_ploughAt_0 : decode cX8_ploughAt 0 = .ok (.aload_n 0, 1) := dk_42 (dk_at dksX8_ploughAt_0 0 rfl rfl)
theorem dX8_ploughAt_1 : decode cX8_ploughAt 1 = .ok (.iload_n 1, 1) := dk_27 (dk_at dksX8_ploughAt_0 1 rfl rfl)
theorem dX8_ploughAt_2 : decode cX8_ploughAt 2 = .ok (.iconst 0, 1) := dk_3 (dk_at dksX8_ploughAt_0 2 rfl rfl)
theorem dX8_ploughAt_3 : decode cX8_ploughAt 3 = .ok (.iconst 4, 1) := dk_7 (dk_at dksX8_ploughAt_0 3 rfl rfl)
theorem dX8_ploughAt_4 : decode cX8_ploughAt 4 = .ok (.invokestatic 82, 3) := dk_184 0 82 (dk_at dksX8_ploughAt_0 4 rfl rfl)
theorem dX8_ploughAt_7 : decode cX8_ploughAt 7 = .ok (.ifCond .ne 7, 3) := dk_154 0 7 (dk_at dksX8_ploughAt_0 7 rfl rfl)
theorem dX8_ploughAt_10 : decode cX8_ploughAt 10 = .ok (.iconst 1, 1) := dk_4 (dk_at dksX8_ploughAt_0 10 rfl rfl)
theorem dX8_ploughAt_11 : decode cX8_ploughAt 11 = .ok (.goto 22, 3) := dk_167 0 22 (dk_at dksX8_ploughAt_0 11 rfl rfl)
theorem dX8_ploughAt_14 : decode cX8_ploughAt 14 = .ok (.iload_n 2, 1) := dk_28 (dk_at dksX8_ploughAt_0 14 rfl rfl)
theorem dX8_ploughAt_15 : decode cX8_ploughAt 15 = .ok (.iconst 0, 1) := dk_3 (dk_at dksX8_ploughAt_0 15 rfl rfl)
theorem dX8_ploughAt_16 : decode cX8_ploughAt 16 = .ok (.aload_n 0, 1) := dk_42 (dk_at dksX8_ploughAt_0 16 rfl rfl)
theorem dX8_ploughAt_17 : decode cX8_ploughAt 17 = .ok (.getfield 9, 3) := dk_180 0 9 (dk_at dksX8_ploughAt_0 17 rfl rfl)
theorem dX8_ploughAt_20 : decode cX8_ploughAt 20 = .ok (.iconst 1, 1) := dk_4 (dk_at dksX8_ploughAt_0 20 rfl rfl)
theorem dX8_ploughAt_21 : decode cX8_ploughAt 21 = .ok (.iaload, 1) := dk_46 (dk_at dksX8_ploughAt_0 21 rfl rfl)
theorem dX8_ploughAt_22 : decode cX8_ploughAt 22 = .ok (.invokestatic 82, 3) := dk_184 0 82 (dk_at dksX8_ploughAt_1 0 rfl rfl)
theorem dX8_ploughAt_25 : decode cX8_ploughAt 25 = .ok (.ifCond .ne 7, 3) := dk_154 0 7 (dk_at dksX8_ploughAt_1 3 rfl rfl)
theorem dX8_ploughAt_28 : decode cX8_ploughAt 28 = .ok (.iconst 2, 1) := dk_5 (dk_at dksX8_ploughAt_1 6 rfl rfl)
theorem dX8_ploughAt_29 : decode cX8_ploughAt 29 = .ok (.goto 4, 3) := dk_167 0 4 (dk_at dksX8_ploughAt_1 7 rfl rfl)
theorem dX8_ploughAt_32 : decode cX8_ploughAt 32 = .ok (.iconst 0, 1) := dk_3 (dk_at dksX8_ploughAt_1 10 rfl rfl)
theorem dX8_ploughAt_33 : decode cX8_ploughAt 33 = .ok (.putfield 64, 3) := dk_181 0 64 (dk_at dksX8_ploughAt_1 11 rfl rfl)
theorem dX8_ploughAt_36 : decode cX8_ploughAt 36 = .ok (.aload_n 0, 1) := dk_42 (dk_at dksX8_ploughAt_1 14 rfl rfl)
theorem dX8_ploughAt_37 : decode cX8_ploughAt 37 = .ok (.getfield 64, 3) := dk_180 0 64 (dk_at dksX8_ploughAt_1 15 rfl rfl)
theorem dX8_ploughAt_40 : decode cX8_ploughAt 40 = .ok (.ifCond .le 5, 3) := dk_158 0 5 (dk_at dksX8_ploughAt_1 18 rfl rfl)
theorem dX8_ploughAt_43 : decode cX8_ploughAt 43 = .ok (.iconst 0, 1) := dk_3 (dk_at dksX8_ploughAt_1 21 rfl rfl)
theorem dX8_ploughAt_44 : decode cX8_ploughAt 44 = .ok (.ireturn, 1) := dk_172 (dk_at dksX8_ploughAt_1 22 rfl rfl)
theorem dX8_ploughAt_45 : decode cX8_ploughAt 45 = .ok (.aload_n 0, 1) := dk_42 (dk_at dksX8_ploughAt_1 23 rfl rfl)
theorem dX8_ploughAt_46 : decode cX8_ploughAt 46 = .ok (.iload_n 2, 1) := dk_28 (dk_at dksX8_ploughAt_2 0 rfl rfl)
theorem dX8_ploughAt_47 : decode cX8_ploughAt 47 = .ok (.invokevirtual 223, 3) := dk_182 0 223 (dk_at dksX8_ploughAt_2 1 rfl rfl)
theorem dX8_ploughAt_50 : decode cX8_ploughAt 50 = .ok (.ifCond .eq 15, 3) := dk_153 0 15 (dk_at dksX8_ploughAt_2 4 rfl rfl)
theorem dX8_ploughAt_53 : decode cX8_ploughAt 53 = .ok (.aload_n 0, 1) := dk_42 (dk_at dksX8_ploughAt_2 7 rfl rfl)
theorem dX8_ploughAt_54 : decode cX8_ploughAt 54 = .ok (.getfield 37, 3) := dk_180 0 37 (dk_at dksX8_ploughAt_2 8 rfl rfl)
theorem dX8_ploughAt_57 : decode cX8_ploughAt 57 = .ok (.bipush 16, 2) := dk_16 16 (dk_at dksX8_ploughAt_2 11 rfl rfl)
theorem dX8_ploughAt_59 : decode cX8_ploughAt 59 = .ok (.iload_n 1, 1) := dk_27 (dk_at dksX8_ploughAt_2 13 rfl rfl)
theorem dX8_ploughAt_60 : decode cX8_ploughAt 60 = .ok (.iadd, 1) := dk_96 (dk_at dksX8_ploughAt_2 14 rfl rfl)
theorem dX8_ploughAt_61 : decode cX8_ploughAt 61 = .ok (.iaload, 1) := dk_46 (dk_at dksX8_ploughAt_2 15 rfl rfl)
theorem dX8_ploughAt_62 : decode cX8_ploughAt 62 = .ok (.goto 5, 3) := dk_167 0 5 (dk_at dksX8_ploughAt_2 16 rfl rfl)
theorem dX8_ploughAt_65 : decode cX8_ploughAt 65 = .ok (.bipush (-2), 2) := dk_16 254 (dk_at dksX8_ploughAt_2 19 rfl rfl)
theorem dX8_ploughAt_67 : decode cX8_ploughAt 67 = .ok (.ireturn, 1) := dk_172 (dk_at dksX8_ploughAt_2 21 rfl rfl)
abbrev cX8_paths : ByteArray := prog_15_method_62_code
def yX8_paths : MethodName := ⟨RX8, "paths", "()I"⟩
def dkwX8_paths_0 : List UInt8 := [42, 3, 181, 0, 64, 42, 182, 0, 245, 172]
abbrev dktX8_paths_0 : List UInt8 := dkwX8_paths_0 ++ []
theorem dksX8_paths_0 : cX8_paths.data.toList.drop 0 = dktX8_paths_0 := by decide +kernel
theorem dX8_paths_0 : decode cX8_paths 0 = .ok (.aload_n 0, 1) := dk_42 (dk_at dksX8_paths_0 0 rfl rfl)
theorem dX8_paths_1 : decode cX8_paths 1 = .ok (.iconst 0, 1) := dk_3 (dk_at dksX8_paths_0 1 rfl rfl)
theorem dX8_paths_2 : decode cX8_paths 2 = .ok (.putfield 64, 3) := dk_181 0 64 (dk_at dksX8_paths_0 2 rfl rfl)
theorem dX8_paths_5 : decode cX8_paths 5 = .ok (.aload_n 0, 1) := dk_42 (dk_at dksX8_paths_0 5 rfl rfl)
theorem dX8_paths_6 : decode cX8_paths 6 = .ok (.invokevirtual 245, 3) := dk_182 0 245 (dk_at dksX8_paths_0 6 rfl rfl)
theorem dX8_paths_9 : decode cX8_paths 9 = .ok (.ireturn, 1) := dk_172 (dk_at dksX8_paths_0 9 rfl rfl)
abbrev cX8_pathMany : ByteArray := prog_15_method_57_code
def yX8_pathMany : MethodName := ⟨RX8, "pathMany", "()I"⟩
def dkwX8_pathMany_0 : List UInt8 := [42, 182, 0, 169, 153, 0, 17, 42, 3, 42, 180, 0, 9, 4, 46, 182, 0, 232, 167, 0, 4, 3, 172]
abbrev dktX8_pathMany_0 : List UInt8 := dkwX8_pathMany_0 ++ []
theorem dksX8_pathMany_0 : cX8_pathMany.data.toList.drop 0 = dktX8_pathMany_0 := by decide +kernel
theorem dX8_pathMany_0 : decode cX8_pathMany 0 = .ok (.aload_n 0, 1) := dk_42 (dk_at dksX8_pathMany_0 0 rfl rfl)
theorem dX8_pathMany_1 : decode cX8_pathMany 1 = .ok (.invokevirtual 169, 3) := dk_182 0 169 (dk_at dksX8_pathMany_0 1 rfl rfl)
theorem dX8_pathMany_4 : decode cX8_pathMany 4 = .ok (.ifCond .eq 17, 3) := dk_153 0 17 (dk_at dksX8_pathMany_0 4 rfl rfl)
theorem dX8_pathMany_7 : decode cX8_pathMany 7 = .ok (.aload_n 0, 1) := dk_42 (dk_at dksX8_pathMany_0 7 rfl rfl)
theorem dX8_pathMany_8 : decode cX8_pathMany 8 = .ok (.iconst 0, 1) := dk_3 (dk_at dksX8_pathMany_0 8 rfl rfl)
theorem dX8_pathMany_9 : decode cX8_pathMany 9 = .ok (.aload_n 0, 1) := dk_42 (dk_at dksX8_pathMany_0 9 rfl rfl)
theorem dX8_pathMany_10 : decode cX8_pathMany 10 = .ok (.getfield 9, 3) := dk_180 0 9 (dk_at dksX8_pathMany_0 10 rfl rfl)
theorem dX8_pathMany_13 : decode cX8_pathMany 13 = .ok (.iconst 1, 1) := dk_4 (dk_at dksX8_pathMany_0 13 rfl rfl)
theorem dX8_pathMany_14 : decode cX8_pathMany 14 = .ok (.iaload, 1) := dk_46 (dk_at dksX8_pathMany_0 14 rfl rfl)
theorem dX8_pathMany_15 : decode cX8_pathMany 15 = .ok (.invokevirtual 232, 3) := dk_182 0 232 (dk_at dksX8_pathMany_0 15 rfl rfl)
theorem dX8_pathMany_18 : decode cX8_pathMany 18 = .ok (.goto 4, 3) := dk_167 0 4 (dk_at dksX8_pathMany_0 18 rfl rfl)
theorem dX8_pathMany_21 : decode cX8_pathMany 21 = .ok (.iconst 0, 1) := dk_3 (dk_at dksX8_pathMany_0 21 rfl rfl)
theorem dX8_pathMany_22 : decode cX8_pathMany 22 = .ok (.ireturn, 1) := dk_172 (dk_at dksX8_pathMany_0 22 rfl rfl)
abbrev cX8_count : ByteArray := prog_15_method_56_code
def yX8_count : MethodName := ⟨RX8, "count", "(II)I"⟩
def dkwX8_count_3 : List UInt8 := [132, 4, 1, 167, 255, 188, 29, 172]
abbrev dktX8_count_3 : List UInt8 := dkwX8_count_3 ++ []
def dkwX8_count_2 : List UInt8 := [42, 180, 0, 34, 21, 4, 46, 182, 0, 232, 96, 104, 62, 42, 180, 0, 34, 21, 4, 46, 54, 4]
abbrev dktX8_count_2 : List UInt8 := dkwX8_count_2 ++ dktX8_count_3
def dkwX8_count_1 : List UInt8 := [21, 4, 4, 96, 42, 180, 0, 31, 21, 4, 46, 182, 0, 232, 42, 42, 180, 0, 31, 21, 4, 46, 4, 96]
abbrev dktX8_count_1 : List UInt8 := dkwX8_count_1 ++ dktX8_count_2
def dkwX8_count_0 : List UInt8 := [4, 62, 27, 54, 4, 21, 4, 28, 162, 0, 68, 42, 21, 4, 182, 0, 110, 16, 7, 160, 0, 51, 29, 42]
abbrev dktX8_count_0 : List UInt8 := dkwX8_count_0 ++ dktX8_count_1
theorem dksX8_count_0 : cX8_count.data.toList.drop 0 = dktX8_count_0 := by decide +kernel
theorem dksX8_count_1 : cX8_count.data.toList.drop 24 = dktX8_count_1 := dk_seg dksX8_count_0 24 rfl rfl
theorem dksX8_count_2 : cX8_count.data.toList.drop 48 = dktX8_count_2 := dk_seg dksX8_count_1 24 rfl rfl
theorem dksX8_count_3 : cX8_count.data.toList.drop 70 = dktX8_count_3 := dk_seg dksX8_count_2 22 rfl rfl
theorem dX8_count_0 : decode cX8_count 0 = .ok (.iconst 1, 1) := dk_4 (dk_at dksX8_count_0 0 rfl rfl)
theorem dX8_count_1 : decode cX8_count 1 = .ok (.istore_n 3, 1) := dk_62 (dk_at dksX8_count_0 1 rfl rfl)
theorem dX8_count_2 : decode cX8_count 2 = .ok (.iload_n 1, 1) := dk_27 (dk_at dksX8_count_0 2 rfl rfl)
theorem dX8_count_3 : decode cX8_count 3 = .ok (.istore 4, 2) := dk_54 4 (dk_at dksX8_count_0 3 rfl rfl)
theorem dX8_count_5 : decode cX8_count 5 = .ok (.iload 4, 2) := dk_21 4 (dk_at dksX8_count_0 5 rfl rfl)
theorem dX8_count_7 : decode cX8_count 7 = .ok (.iload_n 2, 1) := dk_28 (dk_at dksX8_count_0 7 rfl rfl)
theorem dX8_count_8 : decode cX8_count 8 = .ok (.if_icmp .ge 68, 3) := dk_162 0 68 (dk_at dksX8_count_0 8 rfl rfl)
theorem dX8_count_11 : decode cX8_count 11 = .ok (.aload_n 0, 1) := dk_42 (dk_at dksX8_count_0 11 rfl rfl)
theorem dX8_count_12 : decode cX8_count 12 = .ok (.iload 4, 2) := dk_21 4 (dk_at dksX8_count_0 12 rfl rfl)
theorem dX8_count_14 : decode cX8_count 14 = .ok (.invokevirtual 110, 3) := dk_182 0 110 (dk_at dksX8_count_0 14 rfl rfl)
theorem dX8_count_17 : decode cX8_count 17 = .ok (.bipush 7, 2) := dk_16 7 (dk_at dksX8_count_0 17 rfl rfl)
theorem dX8_count_19 : decode cX8_count 19 = .ok (.if_icmp .ne 51, 3) := dk_160 0 51 (dk_at dksX8_count_0 19 rfl rfl)
theorem dX8_count_22 : decode cX8_count 22 = .ok (.iload_n 3, 1) := dk_29 (dk_at dksX8_count_0 22 rfl rfl)
theorem dX8_count_23 : decode cX8_count 23 = .ok (.aload_n 0, 1) := dk_42 (dk_at dksX8_count_0 23 rfl rfl)
theorem dX8_count_24 : decode cX8_count 24 = .ok (.iload 4, 2) := dk_21 4 (dk_at dksX8_count_1 0 rfl rfl)
theorem dX8_count_26 : decode cX8_count 26 = .ok (.iconst 1, 1) := dk_4 (dk_at dksX8_count_1 2 rfl rfl)
theorem dX8_count_27 : decode cX8_count 27 = .ok (.iadd, 1) := dk_96 (dk_at dksX8_count_1 3 rfl rfl)
theorem dX8_count_28 : decode cX8_count 28 = .ok (.aload_n 0, 1) := dk_42 (dk_at dksX8_count_1 4 rfl rfl)
theorem dX8_count_29 : decode cX8_count 29 = .ok (.getfield 31, 3) := dk_180 0 31 (dk_at dksX8_count_1 5 rfl rfl)
theorem dX8_count_32 : decode cX8_count 32 = .ok (.iload 4, 2) := dk_21 4 (dk_at dksX8_count_1 8 rfl rfl)
theorem dX8_count_34 : decode cX8_count 34 = .ok (.iaload, 1) := dk_46 (dk_at dksX8_count_1 10 rfl rfl)
theorem dX8_count_35 : decode cX8_count 35 = .ok (.invokevirtual 232, 3) := dk_182 0 232 (dk_at dksX8_count_1 11 rfl rfl)
theorem dX8_count_38 : decode cX8_count 38 = .ok (.aload_n 0, 1) := dk_42 (dk_at dksX8_count_1 14 rfl rfl)
theorem dX8_count_39 : decode cX8_count 39 = .ok (.aload_n 0, 1) := dk_42 (dk_at dksX8_count_1 15 rfl rfl)
theorem dX8_count_40 : decode cX8_count 40 = .ok (.getfield 31, 3) := dk_180 0 31 (dk_at dksX8_count_1 16 rfl rfl)
theorem dX8_count_43 : decode cX8_count 43 = .ok (.iload 4, 2) := dk_21 4 (dk_at dksX8_count_1 19 rfl rfl)
theorem dX8_count_45 : decode cX8_count 45 = .ok (.iaload, 1) := dk_46 (dk_at dksX8_count_1 21 rfl rfl)
theorem dX8_count_46 : decode cX8_count 46 = .ok (.iconst 1, 1) := dk_4 (dk_at dksX8_count_1 22 rfl rfl)
theorem dX8_count_47 : decode cX8_count 47 = .ok (.iadd, 1) := dk_96 (dk_at dksX8_count_1 23 rfl rfl)
theorem dX8_count_48 : decode cX8_count 48 = .ok (.aload_n 0, 1) := dk_42 (dk_at dksX8_count_2 0 rfl rfl)
theorem dX8_count_49 : decode cX8_count 49 = .ok (.getfield 34, 3) := dk_180 0 34 (dk_at dksX8_count_2 1 rfl rfl)
theorem dX8_count_52 : decode cX8_count 52 = .ok (.iload 4, 2) := dk_21 4 (dk_at dksX8_count_2 4 rfl rfl)
theorem dX8_count_54 : decode cX8_count 54 = .ok (.iaload, 1) := dk_46 (dk_at dksX8_count_2 6 rfl rfl)
theorem dX8_count_55 : decode cX8_count 55 = .ok (.invokevirtual 232, 3) := dk_182 0 232 (dk_at dksX8_count_2 7 rfl rfl)
theorem dX8_count_58 : decode cX8_count 58 = .ok (.iadd, 1) := dk_96 (dk_at dksX8_count_2 10 rfl rfl)
theorem dX8_count_59 : decode cX8_count 59 = .ok (.imul, 1) := dk_104 (dk_at dksX8_count_2 11 rfl rfl)
theorem dX8_count_60 : decode cX8_count 60 = .ok (.istore_n 3, 1) := dk_62 (dk_at dksX8_count_2 12 rfl rfl)
theorem dX8_count_61 : decode cX8_count 61 = .ok (.aload_n 0, 1) := dk_42 (dk_at dksX8_count_2 13 rfl rfl)
theorem dX8_count_62 : decode cX8_count 62 = .ok (.getfield 34, 3) := dk_180 0 34 (dk_at dksX8_count_2 14 rfl rfl)
theorem dX8_count_65 : decode cX8_count 65 = .ok (.iload 4, 2) := dk_21 4 (dk_at dksX8_count_2 17 rfl rfl)
theorem dX8_count_67 : decode cX8_count 67 = .ok (.iaload, 1) := dk_46 (dk_at dksX8_count_2 19 rfl rfl)
theorem dX8_count_68 : decode cX8_count 68 = .ok (.istore 4, 2) := dk_54 4 (dk_at dksX8_count_2 20 rfl rfl)
theorem dX8_count_70 : decode cX8_count 70 = .ok (.iinc 4 1, 3) := dk_132 4 1 (dk_at dksX8_count_3 0 rfl rfl)
theorem dX8_count_73 : decode cX8_count 73 = .ok (.goto (-68), 3) := dk_167 255 188 (dk_at dksX8_count_3 3 rfl rfl)
theorem dX8_count_76 : decode cX8_count 76 = .ok (.iload_n 3, 1) := dk_29 (dk_at dksX8_count_3 6 rfl rfl)
theorem dX8_count_77 : decode cX8_count 77 = .ok (.ireturn, 1) := dk_172 (dk_at dksX8_count_3 7 rfl rfl)
abbrev cX8_pathOf : ByteArray := prog_15_method_63_code
def yX8_pathOf : MethodName := ⟨RX8, "pathOf", "(II)I"⟩
def dkwX8_pathOf_4 : List UInt8 := [180, 0, 176, 167, 0, 7, 42, 180, 0, 179, 172]
abbrev dktX8_pathOf_4 : List UInt8 := dkwX8_pathOf_4 ++ []
def dkwX8_pathOf_3 : List UInt8 := [160, 0, 7, 4, 167, 0, 4, 3, 182, 0, 253, 172, 42, 182, 1, 1, 28, 6, 160, 0, 10, 42]
abbrev dktX8_pathOf_3 : List UInt8 := dkwX8_pathOf_3 ++ dktX8_pathOf_4
def dkwX8_pathOf_2 : List UInt8 := [27, 182, 0, 249, 28, 6, 162, 0, 30, 28, 4, 160, 0, 10, 42, 180, 0, 235, 167, 0, 17, 42, 28, 5]
abbrev dktX8_pathOf_2 : List UInt8 := dkwX8_pathOf_2 ++ dktX8_pathOf_3
def dkwX8_pathOf_1 : List UInt8 := [184, 0, 82, 154, 0, 7, 5, 167, 0, 4, 3, 181, 0, 64, 42, 180, 0, 64, 158, 0, 5, 3, 172, 42]
abbrev dktX8_pathOf_1 : List UInt8 := dkwX8_pathOf_1 ++ dktX8_pathOf_2
def dkwX8_pathOf_0 : List UInt8 := [42, 27, 3, 42, 182, 0, 245, 4, 100, 184, 0, 82, 154, 0, 7, 4, 167, 0, 17, 28, 3, 7]
abbrev dktX8_pathOf_0 : List UInt8 := dkwX8_pathOf_0 ++ dktX8_pathOf_1
theorem dksX8_pathOf_0 : cX8_pathOf.data.toList.drop 0 = dktX8_pathOf_0 := by decide +kernel
theorem dksX8_pathOf_1 : cX8_pathOf.data.toList.drop 22 = dktX8_pathOf_1 := dk_seg dksX8_pathOf_0 22 rfl rfl
theorem dksX8_pathOf_2 : cX8_pathOf.data.toList.drop 46 = dktX8_pathOf_2 := dk_seg dksX8_pathOf_1 24 rfl rfl
theorem dksX8_pathOf_3 : cX8_pathOf.data.toList.drop 70 = dktX8_pathOf_3 := dk_seg dksX8_pathOf_2 24 rfl rfl
theorem dksX8_pathOf_4 : cX8_pathOf.data.toList.drop 92 = dktX8_pathOf_4 := dk_seg dksX8_pathOf_3 22 rfl rfl
theorem dX8_pathOf_0 : decode cX8_pathOf 0 = .ok (.aload_n 0, 1) := dk_42 (dk_at dksX8_pathOf_0 0 rfl rfl)
theorem dX8_pathOf_1 : decode cX8_pathOf 1 = .ok (.iload_n 1, 1) := dk_27 (dk_at dksX8_pathOf_0 1 rfl rfl)
theorem dX8_pathOf_2 : decode cX8_pathOf 2 = .ok (.iconst 0, 1) := dk_3 (dk_at dksX8_pathOf_0 2 rfl rfl)
theorem dX8_pathOf_3 : decode cX8_pathOf 3 = .ok (.aload_n 0, 1) := dk_42 (dk_at dksX8_pathOf_0 3 rfl rfl)
theorem dX8_pathOf_4 : decode cX8_pathOf 4 = .ok (.invokevirtual 245, 3) := dk_182 0 245 (dk_at dksX8_pathOf_0 4 rfl rfl)
theorem dX8_pathOf_7 : decode cX8_pathOf 7 = .ok (.iconst 1, 1) := dk_4 (dk_at dksX8_pathOf_0 7 rfl rfl)
theorem dX8_pathOf_8 : decode cX8_pathOf 8 = .ok (.isub, 1) := dk_100 (dk_at dksX8_pathOf_0 8 rfl rfl)
theorem dX8_pathOf_9 : decode cX8_pathOf 9 = .ok (.invokestatic 82, 3) := dk_184 0 82 (dk_at dksX8_pathOf_0 9 rfl rfl)
theorem dX8_pathOf_12 : decode cX8_pathOf 12 = .ok (.ifCond .ne 7, 3) := dk_154 0 7 (dk_at dksX8_pathOf_0 12 rfl rfl)
theorem dX8_pathOf_15 : decode cX8_pathOf 15 = .ok (.iconst 1, 1) := dk_4 (dk_at dksX8_pathOf_0 15 rfl rfl)
theorem dX8_pathOf_16 : decode cX8_pathOf 16 = .ok (.goto 17, 3) := dk_167 0 17 (dk_at dksX8_pathOf_0 16 rfl rfl)
theorem dX8_pathOf_19 : decode cX8_pathOf 19 = .ok (.iload_n 2, 1) := dk_28 (dk_at dksX8_pathOf_0 19 rfl rfl)
theorem dX8_pathOf_20 : decode cX8_pathOf 20 = .ok (.iconst 0, 1) := dk_3 (dk_at dksX8_pathOf_0 20 rfl rfl)
theorem dX8_pathOf_21 : decode cX8_pathOf 21 = .ok (.iconst 4, 1) := dk_7 (dk_at dksX8_pathOf_0 21 rfl rfl)
theorem dX8_pathOf_22 : decode cX8_pathOf 22 = .ok (.invokestatic 82, 3) := dk_184 0 82 (dk_at dksX8_pathOf_1 0 rfl rfl)
theorem dX8_pathOf_25 : decode cX8_pathOf 25 = .ok (.ifCond .ne 7, 3) := dk_154 0 7 (dk_at dksX8_pathOf_1 3 rfl rfl)
theorem dX8_pathOf_28 : decode cX8_pathOf 28 = .ok (.iconst 2, 1) := dk_5 (dk_at dksX8_pathOf_1 6 rfl rfl)
theorem dX8_pathOf_29 : decode cX8_pathOf 29 = .ok (.goto 4, 3) := dk_167 0 4 (dk_at dksX8_pathOf_1 7 rfl rfl)
theorem dX8_pathOf_32 : decode cX8_pathOf 32 = .ok (.iconst 0, 1) := dk_3 (dk_at dksX8_pathOf_1 10 rfl rfl)
theorem dX8_pathOf_33 : decode cX8_pathOf 33 = .ok (.putfield 64, 3) := dk_181 0 64 (dk_at dksX8_pathOf_1 11 rfl rfl)
theorem dX8_pathOf_36 : decode cX8_pathOf 36 = .ok (.aload_n 0, 1) := dk_42 (dk_at dksX8_pathOf_1 14 rfl rfl)
theorem dX8_pathOf_37 : decode cX8_pathOf 37 = .ok (.getfield 64, 3) := dk_180 0 64 (dk_at dksX8_pathOf_1 15 rfl rfl)
theorem dX8_pathOf_40 : decode cX8_pathOf 40 = .ok (.ifCond .le 5, 3) := dk_158 0 5 (dk_at dksX8_pathOf_1 18 rfl rfl)
theorem dX8_pathOf_43 : decode cX8_pathOf 43 = .ok (.iconst 0, 1) := dk_3 (dk_at dksX8_pathOf_1 21 rfl rfl)
theorem dX8_pathOf_44 : decode cX8_pathOf 44 = .ok (.ireturn, 1) := dk_172 (dk_at dksX8_pathOf_1 22 rfl rfl)
theorem dX8_pathOf_45 : decode cX8_pathOf 45 = .ok (.aload_n 0, 1) := dk_42 (dk_at dksX8_pathOf_1 23 rfl rfl)
theorem dX8_pathOf_46 : decode cX8_pathOf 46 = .ok (.iload_n 1, 1) := dk_27 (dk_at dksX8_pathOf_2 0 rfl rfl)
theorem dX8_pathOf_47 : decode cX8_pathOf 47 = .ok (.invokevirtual 249, 3) := dk_182 0 249 (dk_at dksX8_pathOf_2 1 rfl rfl)
theorem dX8_pathOf_50 : decode cX8_pathOf 50 = .ok (.iload_n 2, 1) := dk_28 (dk_at dksX8_pathOf_2 4 rfl rfl)
theorem dX8_pathOf_51 : decode cX8_pathOf 51 = .ok (.iconst 3, 1) := dk_6 (dk_at dksX8_pathOf_2 5 rfl rfl)
theorem dX8_pathOf_52 : decode cX8_pathOf 52 = .ok (.if_icmp .ge 30, 3) := dk_162 0 30 (dk_at dksX8_pathOf_2 6 rfl rfl)
theorem dX8_pathOf_55 : decode cX8_pathOf 55 = .ok (.iload_n 2, 1) := dk_28 (dk_at dksX8_pathOf_2 9 rfl rfl)
theorem dX8_pathOf_56 : decode cX8_pathOf 56 = .ok (.iconst 1, 1) := dk_4 (dk_at dksX8_pathOf_2 10 rfl rfl)
theorem dX8_pathOf_57 : decode cX8_pathOf 57 = .ok (.if_icmp .ne 10, 3) := dk_160 0 10 (dk_at dksX8_pathOf_2 11 rfl rfl)
theorem dX8_pathOf_60 : decode cX8_pathOf 60 = .ok (.aload_n 0, 1) := dk_42 (dk_at dksX8_pathOf_2 14 rfl rfl)
theorem dX8_pathOf_61 : decode cX8_pathOf 61 = .ok (.getfield 235, 3) := dk_180 0 235 (dk_at dksX8_pathOf_2 15 rfl rfl)
theorem dX8_pathOf_64 : decode cX8_pathOf 64 = .ok (.goto 17, 3) := dk_167 0 17 (dk_at dksX8_pathOf_2 18 rfl rfl)
theorem dX8_pathOf_67 : decode cX8_pathOf 67 = .ok (.aload_n 0, 1) := dk_42 (dk_at dksX8_pathOf_2 21 rfl rfl)
theorem dX8_pathOf_68 : decode cX8_pathOf 68 = .ok (.iload_n 2, 1) := dk_28 (dk_at dksX8_pathOf_2 22 rfl rfl)
theorem dX8_pathOf_69 : decode cX8_pathOf 69 = .ok (.iconst 2, 1) := dk_5 (dk_at dksX8_pathOf_2 23 rfl rfl)
theorem dX8_pathOf_70 : decode cX8_pathOf 70 = .ok (.if_icmp .ne 7, 3) := dk_160 0 7 (dk_at dksX8_pathOf_3 0 rfl rfl)
theorem dX8_pathOf_73 : decode cX8_pathOf 73 = .ok (.iconst 1, 1) := dk_4 (dk_at dksX8_pathOf_3 3 rfl rfl)
theorem dX8_pathOf_74 : decode cX8_pathOf 74 = .ok (.goto 4, 3) := dk_167 0 4 (dk_at dksX8_pathOf_3 4 rfl rfl)
theorem dX8_pathOf_77 : decode cX8_pathOf 77 = .ok (.iconst 0, 1) := dk_3 (dk_at dksX8_pathOf_3 7 rfl rfl)
theorem dX8_pathOf_78 : decode cX8_pathOf 78 = .ok (.invokevirtual 253, 3) := dk_182 0 253 (dk_at dksX8_pathOf_3 8 rfl rfl)
theorem dX8_pathOf_81 : decode cX8_pathOf 81 = .ok (.ireturn, 1) := dk_172 (dk_at dksX8_pathOf_3 11 rfl rfl)
theorem dX8_pathOf_82 : decode cX8_pathOf 82 = .ok (.aload_n 0, 1) := dk_42 (dk_at dksX8_pathOf_3 12 rfl rfl)
theorem dX8_pathOf_83 : decode cX8_pathOf 83 = .ok (.invokevirtual 257, 3) := dk_182 1 1 (dk_at dksX8_pathOf_3 13 rfl rfl)
theorem dX8_pathOf_86 : decode cX8_pathOf 86 = .ok (.iload_n 2, 1) := dk_28 (dk_at dksX8_pathOf_3 16 rfl rfl)
theorem dX8_pathOf_87 : decode cX8_pathOf 87 = .ok (.iconst 3, 1) := dk_6 (dk_at dksX8_pathOf_3 17 rfl rfl)
theorem dX8_pathOf_88 : decode cX8_pathOf 88 = .ok (.if_icmp .ne 10, 3) := dk_160 0 10 (dk_at dksX8_pathOf_3 18 rfl rfl)
theorem dX8_pathOf_91 : decode cX8_pathOf 91 = .ok (.aload_n 0, 1) := dk_42 (dk_at dksX8_pathOf_3 21 rfl rfl)
theorem dX8_pathOf_92 : decode cX8_pathOf 92 = .ok (.getfield 176, 3) := dk_180 0 176 (dk_at dksX8_pathOf_4 0 rfl rfl)
theorem dX8_pathOf_95 : decode cX8_pathOf 95 = .ok (.goto 7, 3) := dk_167 0 7 (dk_at dksX8_pathOf_4 3 rfl rfl)
theorem dX8_pathOf_98 : decode cX8_pathOf 98 = .ok (.aload_n 0, 1) := dk_42 (dk_at dksX8_pathOf_4 6 rfl rfl)
theorem dX8_pathOf_99 : decode cX8_pathOf 99 = .ok (.getfield 179, 3) := dk_180 0 179 (dk_at dksX8_pathOf_4 7 rfl rfl)
theorem dX8_pathOf_102 : decode cX8_pathOf 102 = .ok (.ireturn, 1) := dk_172 (dk_at dksX8_pathOf_4 10 rfl rfl)
abbrev cX8_marksPath : ByteArray := prog_15_method_59_code
def yX8_marksPath : MethodName := ⟨RX8, "marksPath", "(I)V"⟩
def dkwX8_marksPath_1 : List UInt8 := [181, 0, 235, 42, 27, 181, 0, 238, 42, 3, 42, 180, 0, 9, 4, 46, 4, 182, 0, 241, 177]
abbrev dktX8_marksPath_1 : List UInt8 := dkwX8_marksPath_1 ++ []
def dkwX8_marksPath_0 : List UInt8 := [3, 61, 28, 16, 24, 162, 0, 16, 42, 180, 0, 46, 28, 3, 84, 132, 2, 1, 167, 255, 240, 42, 3]
abbrev dktX8_marksPath_0 : List UInt8 := dkwX8_marksPath_0 ++ dktX8_marksPath_1
theorem dksX8_marksPath_0 : cX8_marksPath.data.toList.drop 0 = dktX8_marksPath_0 := by decide +kernel
theorem dksX8_marksPath_1 : cX8_marksPath.data.toList.drop 23 = dktX8_marksPath_1 := dk_seg dksX8_marksPath_0 23 rfl rfl
theorem dX8_marksPath_0 : decode cX8_marksPath 0 = .ok (.iconst 0, 1) := dk_3 (dk_at dksX8_marksPath_0 0 rfl rfl)
theorem dX8_marksPath_1 : decode cX8_marksPath 1 = .ok (.istore_n 2, 1) := dk_61 (dk_at dksX8_marksPath_0 1 rfl rfl)
theorem dX8_marksPath_2 : decode cX8_marksPath 2 = .ok (.iload_n 2, 1) := dk_28 (dk_at dksX8_marksPath_0 2 rfl rfl)
theorem dX8_marksPath_3 : decode cX8_marksPath 3 = .ok (.bipush 24, 2) := dk_16 24 (dk_at dksX8_marksPath_0 3 rfl rfl)
theorem dX8_marksPath_5 : decode cX8_marksPath 5 = .ok (.if_icmp .ge 16, 3) := dk_162 0 16 (dk_at dksX8_marksPath_0 5 rfl rfl)
theorem dX8_marksPath_8 : decode cX8_marksPath 8 = .ok (.aload_n 0, 1) := dk_42 (dk_at dksX8_marksPath_0 8 rfl rfl)
theorem dX8_marksPath_9 : decode cX8_marksPath 9 = .ok (.getfield 46, 3) := dk_180 0 46 (dk_at dksX8_marksPath_0 9 rfl rfl)
theorem dX8_marksPath_12 : decode cX8_marksPath 12 = .ok (.iload_n 2, 1) := dk_28 (dk_at dksX8_marksPath_0 12 rfl rfl)
theorem dX8_marksPath_13 : decode cX8_marksPath 13 = .ok (.iconst 0, 1) := dk_3 (dk_at dksX8_marksPath_0 13 rfl rfl)
theorem dX8_marksPath_14 : decode cX8_marksPath 14 = .ok (.bastore, 1) := dk_84 (dk_at dksX8_marksPath_0 14 rfl rfl)
theorem dX8_marksPath_15 : decode cX8_marksPath 15 = .ok (.iinc 2 1, 3) := dk_132 2 1 (dk_at dksX8_marksPath_0 15 rfl rfl)
theorem dX8_marksPath_18 : decode cX8_marksPath 18 = .ok (.goto (-16), 3) := dk_167 255 240 (dk_at dksX8_marksPath_0 18 rfl rfl)
theorem dX8_marksPath_21 : decode cX8_marksPath 21 = .ok (.aload_n 0, 1) := dk_42 (dk_at dksX8_marksPath_0 21 rfl rfl)
theorem dX8_marksPath_22 : decode cX8_marksPath 22 = .ok (.iconst 0, 1) := dk_3 (dk_at dksX8_marksPath_0 22 rfl rfl)
theorem dX8_marksPath_23 : decode cX8_marksPath 23 = .ok (.putfield 235, 3) := dk_181 0 235 (dk_at dksX8_marksPath_1 0 rfl rfl)
theorem dX8_marksPath_26 : decode cX8_marksPath 26 = .ok (.aload_n 0, 1) := dk_42 (dk_at dksX8_marksPath_1 3 rfl rfl)
theorem dX8_marksPath_27 : decode cX8_marksPath 27 = .ok (.iload_n 1, 1) := dk_27 (dk_at dksX8_marksPath_1 4 rfl rfl)
theorem dX8_marksPath_28 : decode cX8_marksPath 28 = .ok (.putfield 238, 3) := dk_181 0 238 (dk_at dksX8_marksPath_1 5 rfl rfl)
theorem dX8_marksPath_31 : decode cX8_marksPath 31 = .ok (.aload_n 0, 1) := dk_42 (dk_at dksX8_marksPath_1 8 rfl rfl)
theorem dX8_marksPath_32 : decode cX8_marksPath 32 = .ok (.iconst 0, 1) := dk_3 (dk_at dksX8_marksPath_1 9 rfl rfl)
theorem dX8_marksPath_33 : decode cX8_marksPath 33 = .ok (.aload_n 0, 1) := dk_42 (dk_at dksX8_marksPath_1 10 rfl rfl)
theorem dX8_marksPath_34 : decode cX8_marksPath 34 = .ok (.getfield 9, 3) := dk_180 0 9 (dk_at dksX8_marksPath_1 11 rfl rfl)
theorem dX8_marksPath_37 : decode cX8_marksPath 37 = .ok (.iconst 1, 1) := dk_4 (dk_at dksX8_marksPath_1 14 rfl rfl)
theorem dX8_marksPath_38 : decode cX8_marksPath 38 = .ok (.iaload, 1) := dk_46 (dk_at dksX8_marksPath_1 15 rfl rfl)
theorem dX8_marksPath_39 : decode cX8_marksPath 39 = .ok (.iconst 1, 1) := dk_4 (dk_at dksX8_marksPath_1 16 rfl rfl)
theorem dX8_marksPath_40 : decode cX8_marksPath 40 = .ok (.invokevirtual 241, 3) := dk_182 0 241 (dk_at dksX8_marksPath_1 17 rfl rfl)
theorem dX8_marksPath_43 : decode cX8_marksPath 43 = .ok (.return_, 1) := dk_177 (dk_at dksX8_marksPath_1 20 rfl rfl)
abbrev cX8_marks : ByteArray := prog_15_method_58_code
def yX8_marks : MethodName := ⟨RX8, "marks", "(III)V"⟩
def dkwX8_marks_6 : List UInt8 := [21, 6, 21, 7, 182, 0, 241, 21, 6, 54, 4, 132, 4, 1, 167, 255, 105, 177]
abbrev dktX8_marks_6 : List UInt8 := dkwX8_marks_6 ++ []
def dkwX8_marks_5 : List UInt8 := [21, 7, 182, 0, 241, 167, 0, 26, 42, 89, 180, 0, 238, 21, 8, 100, 181, 0, 238, 42, 21, 5, 4, 96]
abbrev dktX8_marks_5 : List UInt8 := dkwX8_marks_5 ++ dktX8_marks_6
def dkwX8_marks_4 : List UInt8 := [180, 0, 46, 21, 6, 4, 84, 42, 180, 0, 238, 21, 8, 162, 0, 18, 42, 21, 4, 4, 96, 21, 5]
abbrev dktX8_marks_4 : List UInt8 := dkwX8_marks_4 ++ dktX8_marks_5
def dkwX8_marks_3 : List UInt8 := [104, 54, 8, 42, 89, 180, 0, 235, 4, 96, 181, 0, 235, 42, 180, 0, 46, 21, 5, 4, 84, 42]
abbrev dktX8_marks_3 : List UInt8 := dkwX8_marks_3 ++ dktX8_marks_4
def dkwX8_marks_2 : List UInt8 := [21, 6, 4, 96, 28, 182, 0, 232, 29, 104, 54, 7, 42, 21, 4, 4, 96, 21, 5, 182, 0, 232, 21, 7]
abbrev dktX8_marks_2 : List UInt8 := dkwX8_marks_2 ++ dktX8_marks_3
def dkwX8_marks_1 : List UInt8 := [16, 7, 160, 0, 126, 42, 180, 0, 31, 21, 4, 46, 54, 5, 42, 180, 0, 34, 21, 4, 46, 54, 6, 42]
abbrev dktX8_marks_1 : List UInt8 := dkwX8_marks_1 ++ dktX8_marks_2
def dkwX8_marks_0 : List UInt8 := [27, 54, 4, 21, 4, 28, 162, 0, 151, 42, 180, 0, 46, 21, 4, 4, 84, 42, 21, 4, 182, 0, 110]
abbrev dktX8_marks_0 : List UInt8 := dkwX8_marks_0 ++ dktX8_marks_1
theorem dksX8_marks_0 : cX8_marks.data.toList.drop 0 = dktX8_marks_0 := by decide +kernel
theorem dksX8_marks_1 : cX8_marks.data.toList.drop 23 = dktX8_marks_1 := dk_seg dksX8_marks_0 23 rfl rfl
theorem dksX8_marks_2 : cX8_marks.data.toList.drop 47 = dktX8_marks_2 := dk_seg dksX8_marks_1 24 rfl rfl
theorem dksX8_marks_3 : cX8_marks.data.toList.drop 71 = dktX8_marks_3 := dk_seg dksX8_marks_2 24 rfl rfl
theorem dksX8_marks_4 : cX8_marks.data.toList.drop 93 = dktX8_marks_4 := dk_seg dksX8_marks_3 22 rfl rfl
theorem dksX8_marks_5 : cX8_marks.data.toList.drop 116 = dktX8_marks_5 := dk_seg dksX8_marks_4 23 rfl rfl
theorem dksX8_marks_6 : cX8_marks.data.toList.drop 140 = dktX8_marks_6 := dk_seg dksX8_marks_5 24 rfl rfl
theorem dX8_marks_0 : decode cX8_marks 0 = .ok (.iload_n 1, 1) := dk_27 (dk_at dksX8_marks_0 0 rfl rfl)
theorem dX8_marks_1 : decode cX8_marks 1 = .ok (.istore 4, 2) := dk_54 4 (dk_at dksX8_marks_0 1 rfl rfl)
theorem dX8_marks_3 : decode cX8_marks 3 = .ok (.iload 4, 2) := dk_21 4 (dk_at dksX8_marks_0 3 rfl rfl)
theorem dX8_marks_5 : decode cX8_marks 5 = .ok (.iload_n 2, 1) := dk_28 (dk_at dksX8_marks_0 5 rfl rfl)
theorem dX8_marks_6 : decode cX8_marks 6 = .ok (.if_icmp .ge 151, 3) := dk_162 0 151 (dk_at dksX8_marks_0 6 rfl rfl)
theorem dX8_marks_9 : decode cX8_marks 9 = .ok (.aload_n 0, 1) := dk_42 (dk_at dksX8_marks_0 9 rfl rfl)
theorem dX8_marks_10 : decode cX8_marks 10 = .ok (.getfield 46, 3) := dk_180 0 46 (dk_at dksX8_marks_0 10 rfl rfl)
theorem dX8_marks_13 : decode cX8_marks 13 = .ok (.iload 4, 2) := dk_21 4 (dk_at dksX8_marks_0 13 rfl rfl)
theorem dX8_marks_15 : decode cX8_marks 15 = .ok (.iconst 1, 1) := dk_4 (dk_at dksX8_marks_0 15 rfl rfl)
theorem dX8_marks_16 : decode cX8_marks 16 = .ok (.bastore, 1) := dk_84 (dk_at dksX8_marks_0 16 rfl rfl)
theorem dX8_marks_17 : decode cX8_marks 17 = .ok (.aload_n 0, 1) := dk_42 (dk_at dksX8_marks_0 17 rfl rfl)
theorem dX8_marks_18 : decode cX8_marks 18 = .ok (.iload 4, 2) := dk_21 4 (dk_at dksX8_marks_0 18 rfl rfl)
theorem dX8_marks_20 : decode cX8_marks 20 = .ok (.invokevirtual 110, 3) := dk_182 0 110 (dk_at dksX8_marks_0 20 rfl rfl)
theorem dX8_marks_23 : decode cX8_marks 23 = .ok (.bipush 7, 2) := dk_16 7 (dk_at dksX8_marks_1 0 rfl rfl)
theorem dX8_marks_25 : decode cX8_marks 25 = .ok (.if_icmp .ne 126, 3) := dk_160 0 126 (dk_at dksX8_marks_1 2 rfl rfl)
theorem dX8_marks_28 : decode cX8_marks 28 = .ok (.aload_n 0, 1) := dk_42 (dk_at dksX8_marks_1 5 rfl rfl)
theorem dX8_marks_29 : decode cX8_marks 29 = .ok (.getfield 31, 3) := dk_180 0 31 (dk_at dksX8_marks_1 6 rfl rfl)
theorem dX8_marks_32 : decode cX8_marks 32 = .ok (.iload 4, 2) := dk_21 4 (dk_at dksX8_marks_1 9 rfl rfl)
theorem dX8_marks_34 : decode cX8_marks 34 = .ok (.iaload, 1) := dk_46 (dk_at dksX8_marks_1 11 rfl rfl)
theorem dX8_marks_35 : decode cX8_marks 35 = .ok (.istore 5, 2) := dk_54 5 (dk_at dksX8_marks_1 12 rfl rfl)
theorem dX8_marks_37 : decode cX8_marks 37 = .ok (.aload_n 0, 1) := dk_42 (dk_at dksX8_marks_1 14 rfl rfl)
theorem dX8_marks_38 : decode cX8_marks 38 = .ok (.getfield 34, 3) := dk_180 0 34 (dk_at dksX8_marks_1 15 rfl rfl)
theorem dX8_marks_41 : decode cX8_marks 41 = .ok (.iload 4, 2) := dk_21 4 (dk_at dksX8_marks_1 18 rfl rfl)
theorem dX8_marks_43 : decode cX8_marks 43 = .ok (.iaload, 1) := dk_46 (dk_at dksX8_marks_1 20 rfl rfl)
theorem dX8_marks_44 : decode cX8_marks 44 = .ok (.istore 6, 2) := dk_54 6 (dk_at dksX8_marks_1 21 rfl rfl)
theorem dX8_marks_46 : decode cX8_marks 46 = .ok (.aload_n 0, 1) := dk_42 (dk_at dksX8_marks_1 23 rfl rfl)
theorem dX8_marks_47 : decode cX8_marks 47 = .ok (.iload 6, 2) := dk_21 6 (dk_at dksX8_marks_2 0 rfl rfl)
theorem dX8_marks_49 : decode cX8_marks 49 = .ok (.iconst 1, 1) := dk_4 (dk_at dksX8_marks_2 2 rfl rfl)
theorem dX8_marks_50 : decode cX8_marks 50 = .ok (.iadd, 1) := dk_96 (dk_at dksX8_marks_2 3 rfl rfl)
theorem dX8_marks_51 : decode cX8_marks 51 = .ok (.iload_n 2, 1) := dk_28 (dk_at dksX8_marks_2 4 rfl rfl)
theorem dX8_marks_52 : decode cX8_marks 52 = .ok (.invokevirtual 232, 3) := dk_182 0 232 (dk_at dksX8_marks_2 5 rfl rfl)
theorem dX8_marks_55 : decode cX8_marks 55 = .ok (.iload_n 3, 1) := dk_29 (dk_at dksX8_marks_2 8 rfl rfl)
theorem dX8_marks_56 : decode cX8_marks 56 = .ok (.imul, 1) := dk_104 (dk_at dksX8_marks_2 9 rfl rfl)
theorem dX8_marks_57 : decode cX8_marks 57 = .ok (.istore 7, 2) := dk_54 7 (dk_at dksX8_marks_2 10 rfl rfl)
theorem dX8_marks_59 : decode cX8_marks 59 = .ok (.aload_n 0, 1) := dk_42 (dk_at dksX8_marks_2 12 rfl rfl)
theorem dX8_marks_60 : decode cX8_marks 60 = .ok (.iload 4, 2) := dk_21 4 (dk_at dksX8_marks_2 13 rfl rfl)
theorem dX8_marks_62 : decode cX8_marks 62 = .ok (.iconst 1, 1) := dk_4 (dk_at dksX8_marks_2 15 rfl rfl)
theorem dX8_marks_63 : decode cX8_marks 63 = .ok (.iadd, 1) := dk_96 (dk_at dksX8_marks_2 16 rfl rfl)
theorem dX8_marks_64 : decode cX8_marks 64 = .ok (.iload 5, 2) := dk_21 5 (dk_at dksX8_marks_2 17 rfl rfl)
theorem dX8_marks_66 : decode cX8_marks 66 = .ok (.invokevirtual 232, 3) := dk_182 0 232 (dk_at dksX8_marks_2 19 rfl rfl)
theorem dX8_marks_69 : decode cX8_marks 69 = .ok (.iload 7, 2) := dk_21 7 (dk_at dksX8_marks_2 22 rfl rfl)
theorem dX8_marks_71 : decode cX8_marks 71 = .ok (.imul, 1) := dk_104 (dk_at dksX8_marks_3 0 rfl rfl)
theorem dX8_marks_72 : decode cX8_marks 72 = .ok (.istore 8, 2) := dk_54 8 (dk_at dksX8_marks_3 1 rfl rfl)
theorem dX8_marks_74 : decode cX8_marks 74 = .ok (.aload_n 0, 1) := dk_42 (dk_at dksX8_marks_3 3 rfl rfl)
theorem dX8_marks_75 : decode cX8_marks 75 = .ok (.dup, 1) := dk_89 (dk_at dksX8_marks_3 4 rfl rfl)
theorem dX8_marks_76 : decode cX8_marks 76 = .ok (.getfield 235, 3) := dk_180 0 235 (dk_at dksX8_marks_3 5 rfl rfl)
theorem dX8_marks_79 : decode cX8_marks 79 = .ok (.iconst 1, 1) := dk_4 (dk_at dksX8_marks_3 8 rfl rfl)
theorem dX8_marks_80 : decode cX8_marks 80 = .ok (.iadd, 1) := dk_96 (dk_at dksX8_marks_3 9 rfl rfl)
theorem dX8_marks_81 : decode cX8_marks 81 = .ok (.putfield 235, 3) := dk_181 0 235 (dk_at dksX8_marks_3 10 rfl rfl)
theorem dX8_marks_84 : decode cX8_marks 84 = .ok (.aload_n 0, 1) := dk_42 (dk_at dksX8_marks_3 13 rfl rfl)
theorem dX8_marks_85 : decode cX8_marks 85 = .ok (.getfield 46, 3) := dk_180 0 46 (dk_at dksX8_marks_3 14 rfl rfl)
theorem dX8_marks_88 : decode cX8_marks 88 = .ok (.iload 5, 2) := dk_21 5 (dk_at dksX8_marks_3 17 rfl rfl)
theorem dX8_marks_90 : decode cX8_marks 90 = .ok (.iconst 1, 1) := dk_4 (dk_at dksX8_marks_3 19 rfl rfl)
theorem dX8_marks_91 : decode cX8_marks 91 = .ok (.bastore, 1) := dk_84 (dk_at dksX8_marks_3 20 rfl rfl)
theorem dX8_marks_92 : decode cX8_marks 92 = .ok (.aload_n 0, 1) := dk_42 (dk_at dksX8_marks_3 21 rfl rfl)
theorem dX8_marks_93 : decode cX8_marks 93 = .ok (.getfield 46, 3) := dk_180 0 46 (dk_at dksX8_marks_4 0 rfl rfl)
theorem dX8_marks_96 : decode cX8_marks 96 = .ok (.iload 6, 2) := dk_21 6 (dk_at dksX8_marks_4 3 rfl rfl)
theorem dX8_marks_98 : decode cX8_marks 98 = .ok (.iconst 1, 1) := dk_4 (dk_at dksX8_marks_4 5 rfl rfl)
theorem dX8_marks_99 : decode cX8_marks 99 = .ok (.bastore, 1) := dk_84 (dk_at dksX8_marks_4 6 rfl rfl)
theorem dX8_marks_100 : decode cX8_marks 100 = .ok (.aload_n 0, 1) := dk_42 (dk_at dksX8_marks_4 7 rfl rfl)
theorem dX8_marks_101 : decode cX8_marks 101 = .ok (.getfield 238, 3) := dk_180 0 238 (dk_at dksX8_marks_4 8 rfl rfl)
theorem dX8_marks_104 : decode cX8_marks 104 = .ok (.iload 8, 2) := dk_21 8 (dk_at dksX8_marks_4 11 rfl rfl)
theorem dX8_marks_106 : decode cX8_marks 106 = .ok (.if_icmp .ge 18, 3) := dk_162 0 18 (dk_at dksX8_marks_4 13 rfl rfl)
theorem dX8_marks_109 : decode cX8_marks 109 = .ok (.aload_n 0, 1) := dk_42 (dk_at dksX8_marks_4 16 rfl rfl)
theorem dX8_marks_110 : decode cX8_marks 110 = .ok (.iload 4, 2) := dk_21 4 (dk_at dksX8_marks_4 17 rfl rfl)
theorem dX8_marks_112 : decode cX8_marks 112 = .ok (.iconst 1, 1) := dk_4 (dk_at dksX8_marks_4 19 rfl rfl)
theorem dX8_marks_113 : decode cX8_marks 113 = .ok (.iadd, 1) := dk_96 (dk_at dksX8_marks_4 20 rfl rfl)
theorem dX8_marks_114 : decode cX8_marks 114 = .ok (.iload 5, 2) := dk_21 5 (dk_at dksX8_marks_4 21 rfl rfl)
theorem dX8_marks_116 : decode cX8_marks 116 = .ok (.iload 7, 2) := dk_21 7 (dk_at dksX8_marks_5 0 rfl rfl)
theorem dX8_marks_118 : decode cX8_marks 118 = .ok (.invokevirtual 241, 3) := dk_182 0 241 (dk_at dksX8_marks_5 2 rfl rfl)
theorem dX8_marks_121 : decode cX8_marks 121 = .ok (.goto 26, 3) := dk_167 0 26 (dk_at dksX8_marks_5 5 rfl rfl)
theorem dX8_marks_124 : decode cX8_marks 124 = .ok (.aload_n 0, 1) := dk_42 (dk_at dksX8_marks_5 8 rfl rfl)
theorem dX8_marks_125 : decode cX8_marks 125 = .ok (.dup, 1) := dk_89 (dk_at dksX8_marks_5 9 rfl rfl)
theorem dX8_marks_126 : decode cX8_marks 126 = .ok (.getfield 238, 3) := dk_180 0 238 (dk_at dksX8_marks_5 10 rfl rfl)
theorem dX8_marks_129 : decode cX8_marks 129 = .ok (.iload 8, 2) := dk_21 8 (dk_at dksX8_marks_5 13 rfl rfl)
theorem dX8_marks_131 : decode cX8_marks 131 = .ok (.isub, 1) := dk_100 (dk_at dksX8_marks_5 15 rfl rfl)
theorem dX8_marks_132 : decode cX8_marks 132 = .ok (.putfield 238, 3) := dk_181 0 238 (dk_at dksX8_marks_5 16 rfl rfl)
theorem dX8_marks_135 : decode cX8_marks 135 = .ok (.aload_n 0, 1) := dk_42 (dk_at dksX8_marks_5 19 rfl rfl)
theorem dX8_marks_136 : decode cX8_marks 136 = .ok (.iload 5, 2) := dk_21 5 (dk_at dksX8_marks_5 20 rfl rfl)
theorem dX8_marks_138 : decode cX8_marks 138 = .ok (.iconst 1, 1) := dk_4 (dk_at dksX8_marks_5 22 rfl rfl)
theorem dX8_marks_139 : decode cX8_marks 139 = .ok (.iadd, 1) := dk_96 (dk_at dksX8_marks_5 23 rfl rfl)
theorem dX8_marks_140 : decode cX8_marks 140 = .ok (.iload 6, 2) := dk_21 6 (dk_at dksX8_marks_6 0 rfl rfl)
theorem dX8_marks_142 : decode cX8_marks 142 = .ok (.iload 7, 2) := dk_21 7 (dk_at dksX8_marks_6 2 rfl rfl)
theorem dX8_marks_144 : decode cX8_marks 144 = .ok (.invokevirtual 241, 3) := dk_182 0 241 (dk_at dksX8_marks_6 4 rfl rfl)
theorem dX8_marks_147 : decode cX8_marks 147 = .ok (.iload 6, 2) := dk_21 6 (dk_at dksX8_marks_6 7 rfl rfl)
theorem dX8_marks_149 : decode cX8_marks 149 = .ok (.istore 4, 2) := dk_54 4 (dk_at dksX8_marks_6 9 rfl rfl)
theorem dX8_marks_151 : decode cX8_marks 151 = .ok (.iinc 4 1, 3) := dk_132 4 1 (dk_at dksX8_marks_6 11 rfl rfl)
theorem dX8_marks_154 : decode cX8_marks 154 = .ok (.goto (-151), 3) := dk_167 255 105 (dk_at dksX8_marks_6 14 rfl rfl)
theorem dX8_marks_157 : decode cX8_marks 157 = .ok (.return_, 1) := dk_177 (dk_at dksX8_marks_6 17 rfl rfl)
abbrev cX8_sumOf : ByteArray := prog_15_method_60_code
def yX8_sumOf : MethodName := ⟨RX8, "sumOf", "(Z)I"⟩
def dkwX8_sumOf_3 : List UInt8 := [167, 255, 189, 28, 172]
abbrev dktX8_sumOf_3 : List UInt8 := dkwX8_sumOf_3 ++ []
def dkwX8_sumOf_2 : List UInt8 := [54, 4, 28, 42, 180, 0, 46, 29, 51, 153, 0, 8, 21, 4, 167, 0, 4, 3, 96, 61, 132, 3, 1]
abbrev dktX8_sumOf_2 : List UInt8 := dkwX8_sumOf_2 ++ dktX8_sumOf_3
def dkwX8_sumOf_1 : List UInt8 := [182, 0, 110, 6, 160, 0, 19, 42, 180, 0, 9, 16, 29, 42, 29, 182, 0, 133, 96, 46, 167, 0, 4, 3]
abbrev dktX8_sumOf_1 : List UInt8 := dkwX8_sumOf_1 ++ dktX8_sumOf_2
def dkwX8_sumOf_0 : List UInt8 := [3, 61, 3, 62, 29, 42, 180, 0, 9, 4, 46, 162, 0, 63, 27, 154, 0, 7, 4, 167, 0, 29, 42, 29]
abbrev dktX8_sumOf_0 : List UInt8 := dkwX8_sumOf_0 ++ dktX8_sumOf_1
theorem dksX8_sumOf_0 : cX8_sumOf.data.toList.drop 0 = dktX8_sumOf_0 := by decide +kernel
theorem dksX8_sumOf_1 : cX8_sumOf.data.toList.drop 24 = dktX8_sumOf_1 := dk_seg dksX8_sumOf_0 24 rfl rfl
theorem dksX8_sumOf_2 : cX8_sumOf.data.toList.drop 48 = dktX8_sumOf_2 := dk_seg dksX8_sumOf_1 24 rfl rfl
theorem dksX8_sumOf_3 : cX8_sumOf.data.toList.drop 71 = dktX8_sumOf_3 := dk_seg dksX8_sumOf_2 23 rfl rfl
theorem dX8_sumOf_0 : decode cX8_sumOf 0 = .ok (.iconst 0, 1) := dk_3 (dk_at dksX8_sumOf_0 0 rfl rfl)
theorem dX8_sumOf_1 : decode cX8_sumOf 1 = .ok (.istore_n 2, 1) := dk_61 (dk_at dksX8_sumOf_0 1 rfl rfl)
theorem dX8_sumOf_2 : decode cX8_sumOf 2 = .ok (.iconst 0, 1) := dk_3 (dk_at dksX8_sumOf_0 2 rfl rfl)
theorem dX8_sumOf_3 : decode cX8_sumOf 3 = .ok (.istore_n 3, 1) := dk_62 (dk_at dksX8_sumOf_0 3 rfl rfl)
theorem dX8_sumOf_4 : decode cX8_sumOf 4 = .ok (.iload_n 3, 1) := dk_29 (dk_at dksX8_sumOf_0 4 rfl rfl)
theorem dX8_sumOf_5 : decode cX8_sumOf 5 = .ok (.aload_n 0, 1) := dk_42 (dk_at dksX8_sumOf_0 5 rfl rfl)
theorem dX8_sumOf_6 : decode cX8_sumOf 6 = .ok (.getfield 9, 3) := dk_180 0 9 (dk_at dksX8_sumOf_0 6 rfl rfl)
theorem dX8_sumOf_9 : decode cX8_sumOf 9 = .ok (.iconst 1, 1) := dk_4 (dk_at dksX8_sumOf_0 9 rfl rfl)
theorem dX8_sumOf_10 : decode cX8_sumOf 10 = .ok (.iaload, 1) := dk_46 (dk_at dksX8_sumOf_0 10 rfl rfl)
theorem dX8_sumOf_11 : decode cX8_sumOf 11 = .ok (.if_icmp .ge 63, 3) := dk_162 0 63 (dk_at dksX8_sumOf_0 11 rfl rfl)
theorem dX8_sumOf_14 : decode cX8_sumOf 14 = .ok (.iload_n 1, 1) := dk_27 (dk_at dksX8_sumOf_0 14 rfl rfl)
theorem dX8_sumOf_15 : decode cX8_sumOf 15 = .ok (.ifCond .ne 7, 3) := dk_154 0 7 (dk_at dksX8_sumOf_0 15 rfl rfl)
theorem dX8_sumOf_18 : decode cX8_sumOf 18 = .ok (.iconst 1, 1) := dk_4 (dk_at dksX8_sumOf_0 18 rfl rfl)
theorem dX8_sumOf_19 : decode cX8_sumOf 19 = .ok (.goto 29, 3) := dk_167 0 29 (dk_at dksX8_sumOf_0 19 rfl rfl)
theorem dX8_sumOf_22 : decode cX8_sumOf 22 = .ok (.aload_n 0, 1) := dk_42 (dk_at dksX8_sumOf_0 22 rfl rfl)
theorem dX8_sumOf_23 : decode cX8_sumOf 23 = .ok (.iload_n 3, 1) := dk_29 (dk_at dksX8_sumOf_0 23 rfl rfl)
theorem dX8_sumOf_24 : decode cX8_sumOf 24 = .ok (.invokevirtual 110, 3) := dk_182 0 110 (dk_at dksX8_sumOf_1 0 rfl rfl)
theorem dX8_sumOf_27 : decode cX8_sumOf 27 = .ok (.iconst 3, 1) := dk_6 (dk_at dksX8_sumOf_1 3 rfl rfl)
theorem dX8_sumOf_28 : decode cX8_sumOf 28 = .ok (.if_icmp .ne 19, 3) := dk_160 0 19 (dk_at dksX8_sumOf_1 4 rfl rfl)
theorem dX8_sumOf_31 : decode cX8_sumOf 31 = .ok (.aload_n 0, 1) := dk_42 (dk_at dksX8_sumOf_1 7 rfl rfl)
theorem dX8_sumOf_32 : decode cX8_sumOf 32 = .ok (.getfield 9, 3) := dk_180 0 9 (dk_at dksX8_sumOf_1 8 rfl rfl)
theorem dX8_sumOf_35 : decode cX8_sumOf 35 = .ok (.bipush 29, 2) := dk_16 29 (dk_at dksX8_sumOf_1 11 rfl rfl)
theorem dX8_sumOf_37 : decode cX8_sumOf 37 = .ok (.aload_n 0, 1) := dk_42 (dk_at dksX8_sumOf_1 13 rfl rfl)
theorem dX8_sumOf_38 : decode cX8_sumOf 38 = .ok (.iload_n 3, 1) := dk_29 (dk_at dksX8_sumOf_1 14 rfl rfl)
theorem dX8_sumOf_39 : decode cX8_sumOf 39 = .ok (.invokevirtual 133, 3) := dk_182 0 133 (dk_at dksX8_sumOf_1 15 rfl rfl)
theorem dX8_sumOf_42 : decode cX8_sumOf 42 = .ok (.iadd, 1) := dk_96 (dk_at dksX8_sumOf_1 18 rfl rfl)
theorem dX8_sumOf_43 : decode cX8_sumOf 43 = .ok (.iaload, 1) := dk_46 (dk_at dksX8_sumOf_1 19 rfl rfl)
theorem dX8_sumOf_44 : decode cX8_sumOf 44 = .ok (.goto 4, 3) := dk_167 0 4 (dk_at dksX8_sumOf_1 20 rfl rfl)
theorem dX8_sumOf_47 : decode cX8_sumOf 47 = .ok (.iconst 0, 1) := dk_3 (dk_at dksX8_sumOf_1 23 rfl rfl)
theorem dX8_sumOf_48 : decode cX8_sumOf 48 = .ok (.istore 4, 2) := dk_54 4 (dk_at dksX8_sumOf_2 0 rfl rfl)
theorem dX8_sumOf_50 : decode cX8_sumOf 50 = .ok (.iload_n 2, 1) := dk_28 (dk_at dksX8_sumOf_2 2 rfl rfl)
theorem dX8_sumOf_51 : decode cX8_sumOf 51 = .ok (.aload_n 0, 1) := dk_42 (dk_at dksX8_sumOf_2 3 rfl rfl)
theorem dX8_sumOf_52 : decode cX8_sumOf 52 = .ok (.getfield 46, 3) := dk_180 0 46 (dk_at dksX8_sumOf_2 4 rfl rfl)
theorem dX8_sumOf_55 : decode cX8_sumOf 55 = .ok (.iload_n 3, 1) := dk_29 (dk_at dksX8_sumOf_2 7 rfl rfl)
theorem dX8_sumOf_56 : decode cX8_sumOf 56 = .ok (.baload, 1) := dk_51 (dk_at dksX8_sumOf_2 8 rfl rfl)
theorem dX8_sumOf_57 : decode cX8_sumOf 57 = .ok (.ifCond .eq 8, 3) := dk_153 0 8 (dk_at dksX8_sumOf_2 9 rfl rfl)
theorem dX8_sumOf_60 : decode cX8_sumOf 60 = .ok (.iload 4, 2) := dk_21 4 (dk_at dksX8_sumOf_2 12 rfl rfl)
theorem dX8_sumOf_62 : decode cX8_sumOf 62 = .ok (.goto 4, 3) := dk_167 0 4 (dk_at dksX8_sumOf_2 14 rfl rfl)
theorem dX8_sumOf_65 : decode cX8_sumOf 65 = .ok (.iconst 0, 1) := dk_3 (dk_at dksX8_sumOf_2 17 rfl rfl)
theorem dX8_sumOf_66 : decode cX8_sumOf 66 = .ok (.iadd, 1) := dk_96 (dk_at dksX8_sumOf_2 18 rfl rfl)
theorem dX8_sumOf_67 : decode cX8_sumOf 67 = .ok (.istore_n 2, 1) := dk_61 (dk_at dksX8_sumOf_2 19 rfl rfl)
theorem dX8_sumOf_68 : decode cX8_sumOf 68 = .ok (.iinc 3 1, 3) := dk_132 3 1 (dk_at dksX8_sumOf_2 20 rfl rfl)
theorem dX8_sumOf_71 : decode cX8_sumOf 71 = .ok (.goto (-67), 3) := dk_167 255 189 (dk_at dksX8_sumOf_3 0 rfl rfl)
theorem dX8_sumOf_74 : decode cX8_sumOf 74 = .ok (.iload_n 2, 1) := dk_28 (dk_at dksX8_sumOf_3 3 rfl rfl)
theorem dX8_sumOf_75 : decode cX8_sumOf 75 = .ok (.ireturn, 1) := dk_172 (dk_at dksX8_sumOf_3 4 rfl rfl)
abbrev cX8_looksOn : ByteArray := prog_15_method_61_code
def yX8_looksOn : MethodName := ⟨RX8, "looksOn", "()V"⟩
def dkwX8_looksOn_2 : List UInt8 := [132, 2, 1, 167, 255, 215, 27, 153, 0, 7, 42, 182, 0, 226, 177]
abbrev dktX8_looksOn_2 : List UInt8 := dkwX8_looksOn_2 ++ []
def dkwX8_looksOn_1 : List UInt8 := [180, 0, 46, 28, 51, 153, 0, 12, 42, 28, 4, 182, 0, 219, 153, 0, 7, 4, 167, 0, 4, 3, 60]
abbrev dktX8_looksOn_1 : List UInt8 := dkwX8_looksOn_1 ++ dktX8_looksOn_2
def dkwX8_looksOn_0 : List UInt8 := [42, 182, 0, 216, 4, 60, 3, 61, 28, 42, 180, 0, 9, 4, 46, 162, 0, 37, 27, 153, 0, 33, 42]
abbrev dktX8_looksOn_0 : List UInt8 := dkwX8_looksOn_0 ++ dktX8_looksOn_1
theorem dksX8_looksOn_0 : cX8_looksOn.data.toList.drop 0 = dktX8_looksOn_0 := by decide +kernel
theorem dksX8_looksOn_1 : cX8_looksOn.data.toList.drop 23 = dktX8_looksOn_1 := dk_seg dksX8_looksOn_0 23 rfl rfl
theorem dksX8_looksOn_2 : cX8_looksOn.data.toList.drop 46 = dktX8_looksOn_2 := dk_seg dksX8_looksOn_1 23 rfl rfl
theorem dX8_looksOn_0 : decode cX8_looksOn 0 = .ok (.aload_n 0, 1) := dk_42 (dk_at dksX8_looksOn_0 0 rfl rfl)
theorem dX8_looksOn_1 : decode cX8_looksOn 1 = .ok (.invokevirtual 216, 3) := dk_182 0 216 (dk_at dksX8_looksOn_0 1 rfl rfl)
theorem dX8_looksOn_4 : decode cX8_looksOn 4 = .ok (.iconst 1, 1) := dk_4 (dk_at dksX8_looksOn_0 4 rfl rfl)
theorem dX8_looksOn_5 : decode cX8_looksOn 5 = .ok (.istore_n 1, 1) := dk_60 (dk_at dksX8_looksOn_0 5 rfl rfl)
theorem dX8_looksOn_6 : decode cX8_looksOn 6 = .ok (.iconst 0, 1) := dk_3 (dk_at dksX8_looksOn_0 6 rfl rfl)
theorem dX8_looksOn_7 : decode cX8_looksOn 7 = .ok (.istore_n 2, 1) := dk_61 (dk_at dksX8_looksOn_0 7 rfl rfl)
theorem dX8_looksOn_8 : decode cX8_looksOn 8 = .ok (.iload_n 2, 1) := dk_28 (dk_at dksX8_looksOn_0 8 rfl rfl)
theorem dX8_looksOn_9 : decode cX8_looksOn 9 = .ok (.aload_n 0, 1) := dk_42 (dk_at dksX8_looksOn_0 9 rfl rfl)
theorem dX8_looksOn_10 : decode cX8_looksOn 10 = .ok (.getfield 9, 3) := dk_180 0 9 (dk_at dksX8_looksOn_0 10 rfl rfl)
theorem dX8_looksOn_13 : decode cX8_looksOn 13 = .ok (.iconst 1, 1) := dk_4 (dk_at dksX8_looksOn_0 13 rfl rfl)
theorem dX8_looksOn_14 : decode cX8_looksOn 14 = .ok (.iaload, 1) := dk_46 (dk_at dksX8_looksOn_0 14 rfl rfl)
theorem dX8_looksOn_15 : decode cX8_looksOn 15 = .ok (.if_icmp .ge 37, 3) := dk_162 0 37 (dk_at dksX8_looksOn_0 15 rfl rfl)
theorem dX8_looksOn_18 : decode cX8_looksOn 18 = .ok (.iload_n 1, 1) := dk_27 (dk_at dksX8_looksOn_0 18 rfl rfl)
theorem dX8_looksOn_19 : decode cX8_looksOn 19 = .ok (.ifCond .eq 33, 3) := dk_153 0 33 (dk_at dksX8_looksOn_0 19 rfl rfl)
theorem dX8_looksOn_22 : decode cX8_looksOn 22 = .ok (.aload_n 0, 1) := dk_42 (dk_at dksX8_looksOn_0 22 rfl rfl)
theorem dX8_looksOn_23 : decode cX8_looksOn 23 = .ok (.getfield 46, 3) := dk_180 0 46 (dk_at dksX8_looksOn_1 0 rfl rfl)
theorem dX8_looksOn_26 : decode cX8_looksOn 26 = .ok (.iload_n 2, 1) := dk_28 (dk_at dksX8_looksOn_1 3 rfl rfl)
theorem dX8_looksOn_27 : decode cX8_looksOn 27 = .ok (.baload, 1) := dk_51 (dk_at dksX8_looksOn_1 4 rfl rfl)
theorem dX8_looksOn_28 : decode cX8_looksOn 28 = .ok (.ifCond .eq 12, 3) := dk_153 0 12 (dk_at dksX8_looksOn_1 5 rfl rfl)
theorem dX8_looksOn_31 : decode cX8_looksOn 31 = .ok (.aload_n 0, 1) := dk_42 (dk_at dksX8_looksOn_1 8 rfl rfl)
theorem dX8_looksOn_32 : decode cX8_looksOn 32 = .ok (.iload_n 2, 1) := dk_28 (dk_at dksX8_looksOn_1 9 rfl rfl)
theorem dX8_looksOn_33 : decode cX8_looksOn 33 = .ok (.iconst 1, 1) := dk_4 (dk_at dksX8_looksOn_1 10 rfl rfl)
theorem dX8_looksOn_34 : decode cX8_looksOn 34 = .ok (.invokevirtual 219, 3) := dk_182 0 219 (dk_at dksX8_looksOn_1 11 rfl rfl)
theorem dX8_looksOn_37 : decode cX8_looksOn 37 = .ok (.ifCond .eq 7, 3) := dk_153 0 7 (dk_at dksX8_looksOn_1 14 rfl rfl)
theorem dX8_looksOn_40 : decode cX8_looksOn 40 = .ok (.iconst 1, 1) := dk_4 (dk_at dksX8_looksOn_1 17 rfl rfl)
theorem dX8_looksOn_41 : decode cX8_looksOn 41 = .ok (.goto 4, 3) := dk_167 0 4 (dk_at dksX8_looksOn_1 18 rfl rfl)
theorem dX8_looksOn_44 : decode cX8_looksOn 44 = .ok (.iconst 0, 1) := dk_3 (dk_at dksX8_looksOn_1 21 rfl rfl)
theorem dX8_looksOn_45 : decode cX8_looksOn 45 = .ok (.istore_n 1, 1) := dk_60 (dk_at dksX8_looksOn_1 22 rfl rfl)
theorem dX8_looksOn_46 : decode cX8_looksOn 46 = .ok (.iinc 2 1, 3) := dk_132 2 1 (dk_at dksX8_looksOn_2 0 rfl rfl)
theorem dX8_looksOn_49 : decode cX8_looksOn 49 = .ok (.goto (-41), 3) := dk_167 255 215 (dk_at dksX8_looksOn_2 3 rfl rfl)
theorem dX8_looksOn_52 : decode cX8_looksOn 52 = .ok (.iload_n 1, 1) := dk_27 (dk_at dksX8_looksOn_2 6 rfl rfl)
theorem dX8_looksOn_53 : decode cX8_looksOn 53 = .ok (.ifCond .eq 7, 3) := dk_153 0 7 (dk_at dksX8_looksOn_2 7 rfl rfl)
theorem dX8_looksOn_56 : decode cX8_looksOn 56 = .ok (.aload_n 0, 1) := dk_42 (dk_at dksX8_looksOn_2 10 rfl rfl)
theorem dX8_looksOn_57 : decode cX8_looksOn 57 = .ok (.invokevirtual 226, 3) := dk_182 0 226 (dk_at dksX8_looksOn_2 11 rfl rfl)
theorem dX8_looksOn_60 : decode cX8_looksOn 60 = .ok (.return_, 1) := dk_177 (dk_at dksX8_looksOn_2 14 rfl rfl)
abbrev cX8_goesBy : ByteArray := prog_15_method_64_code
def yX8_goesBy : MethodName := ⟨RX8, "goesBy", "(II)Z"⟩
def dkwX8_goesBy_2 : List UInt8 := [182, 0, 249, 42, 180, 0, 46, 28, 51, 172]
abbrev dktX8_goesBy_2 : List UInt8 := dkwX8_goesBy_2 ++ []
def dkwX8_goesBy_1 : List UInt8 := [154, 0, 7, 5, 167, 0, 4, 3, 181, 0, 64, 42, 180, 0, 64, 158, 0, 5, 3, 172, 42, 27]
abbrev dktX8_goesBy_1 : List UInt8 := dkwX8_goesBy_1 ++ dktX8_goesBy_2
def dkwX8_goesBy_0 : List UInt8 := [42, 27, 3, 42, 182, 0, 245, 4, 100, 184, 0, 82, 154, 0, 7, 4, 167, 0, 16, 42, 28, 182, 0, 157]
abbrev dktX8_goesBy_0 : List UInt8 := dkwX8_goesBy_0 ++ dktX8_goesBy_1
theorem dksX8_goesBy_0 : cX8_goesBy.data.toList.drop 0 = dktX8_goesBy_0 := by decide +kernel
theorem dksX8_goesBy_1 : cX8_goesBy.data.toList.drop 24 = dktX8_goesBy_1 := dk_seg dksX8_goesBy_0 24 rfl rfl
theorem dksX8_goesBy_2 : cX8_goesBy.data.toList.drop 46 = dktX8_goesBy_2 := dk_seg dksX8_goesBy_1 22 rfl rfl
theorem dX8_goesBy_0 : decode cX8_goesBy 0 = .ok (.aload_n 0, 1) := dk_42 (dk_at dksX8_goesBy_0 0 rfl rfl)
theorem dX8_goesBy_1 : decode cX8_goesBy 1 = .ok (.iload_n 1, 1) := dk_27 (dk_at dksX8_goesBy_0 1 rfl rfl)
theorem dX8_goesBy_2 : decode cX8_goesBy 2 = .ok (.iconst 0, 1) := dk_3 (dk_at dksX8_goesBy_0 2 rfl rfl)
theorem dX8_goesBy_3 : decode cX8_goesBy 3 = .ok (.aload_n 0, 1) := dk_42 (dk_at dksX8_goesBy_0 3 rfl rfl)
theorem dX8_goesBy_4 : decode cX8_goesBy 4 = .ok (.invokevirtual 245, 3) := dk_182 0 245 (dk_at dksX8_goesBy_0 4 rfl rfl)
theorem dX8_goesBy_7 : decode cX8_goesBy 7 = .ok (.iconst 1, 1) := dk_4 (dk_at dksX8_goesBy_0 7 rfl rfl)
theorem dX8_goesBy_8 : decode cX8_goesBy 8 = .ok (.isub, 1) := dk_100 (dk_at dksX8_goesBy_0 8 rfl rfl)
theorem dX8_goesBy_9 : decode cX8_goesBy 9 = .ok (.invokestatic 82, 3) := dk_184 0 82 (dk_at dksX8_goesBy_0 9 rfl rfl)
theorem dX8_goesBy_12 : decode cX8_goesBy 12 = .ok (.ifCond .ne 7, 3) := dk_154 0 7 (dk_at dksX8_goesBy_0 12 rfl rfl)
theorem dX8_goesBy_15 : decode cX8_goesBy 15 = .ok (.iconst 1, 1) := dk_4 (dk_at dksX8_goesBy_0 15 rfl rfl)
theorem dX8_goesBy_16 : decode cX8_goesBy 16 = .ok (.goto 16, 3) := dk_167 0 16 (dk_at dksX8_goesBy_0 16 rfl rfl)
theorem dX8_goesBy_19 : decode cX8_goesBy 19 = .ok (.aload_n 0, 1) := dk_42 (dk_at dksX8_goesBy_0 19 rfl rfl)
theorem dX8_goesBy_20 : decode cX8_goesBy 20 = .ok (.iload_n 2, 1) := dk_28 (dk_at dksX8_goesBy_0 20 rfl rfl)
theorem dX8_goesBy_21 : decode cX8_goesBy 21 = .ok (.invokevirtual 157, 3) := dk_182 0 157 (dk_at dksX8_goesBy_0 21 rfl rfl)
theorem dX8_goesBy_24 : decode cX8_goesBy 24 = .ok (.ifCond .ne 7, 3) := dk_154 0 7 (dk_at dksX8_goesBy_1 0 rfl rfl)
theorem dX8_goesBy_27 : decode cX8_goesBy 27 = .ok (.iconst 2, 1) := dk_5 (dk_at dksX8_goesBy_1 3 rfl rfl)
theorem dX8_goesBy_28 : decode cX8_goesBy 28 = .ok (.goto 4, 3) := dk_167 0 4 (dk_at dksX8_goesBy_1 4 rfl rfl)
theorem dX8_goesBy_31 : decode cX8_goesBy 31 = .ok (.iconst 0, 1) := dk_3 (dk_at dksX8_goesBy_1 7 rfl rfl)
theorem dX8_goesBy_32 : decode cX8_goesBy 32 = .ok (.putfield 64, 3) := dk_181 0 64 (dk_at dksX8_goesBy_1 8 rfl rfl)
theorem dX8_goesBy_35 : decode cX8_goesBy 35 = .ok (.aload_n 0, 1) := dk_42 (dk_at dksX8_goesBy_1 11 rfl rfl)
theorem dX8_goesBy_36 : decode cX8_goesBy 36 = .ok (.getfield 64, 3) := dk_180 0 64 (dk_at dksX8_goesBy_1 12 rfl rfl)
theorem dX8_goesBy_39 : decode cX8_goesBy 39 = .ok (.ifCond .le 5, 3) := dk_158 0 5 (dk_at dksX8_goesBy_1 15 rfl rfl)
theorem dX8_goesBy_42 : decode cX8_goesBy 42 = .ok (.iconst 0, 1) := dk_3 (dk_at dksX8_goesBy_1 18 rfl rfl)
theorem dX8_goesBy_43 : decode cX8_goesBy 43 = .ok (.ireturn, 1) := dk_172 (dk_at dksX8_goesBy_1 19 rfl rfl)
theorem dX8_goesBy_44 : decode cX8_goesBy 44 = .ok (.aload_n 0, 1) := dk_42 (dk_at dksX8_goesBy_1 20 rfl rfl)
theorem dX8_goesBy_45 : decode cX8_goesBy 45 = .ok (.iload_n 1, 1) := dk_27 (dk_at dksX8_goesBy_1 21 rfl rfl)
theorem dX8_goesBy_46 : decode cX8_goesBy 46 = .ok (.invokevirtual 249, 3) := dk_182 0 249 (dk_at dksX8_goesBy_2 0 rfl rfl)
theorem dX8_goesBy_49 : decode cX8_goesBy 49 = .ok (.aload_n 0, 1) := dk_42 (dk_at dksX8_goesBy_2 3 rfl rfl)
theorem dX8_goesBy_50 : decode cX8_goesBy 50 = .ok (.getfield 46, 3) := dk_180 0 46 (dk_at dksX8_goesBy_2 4 rfl rfl)
theorem dX8_goesBy_53 : decode cX8_goesBy 53 = .ok (.iload_n 2, 1) := dk_28 (dk_at dksX8_goesBy_2 7 rfl rfl)
theorem dX8_goesBy_54 : decode cX8_goesBy 54 = .ok (.baload, 1) := dk_51 (dk_at dksX8_goesBy_2 8 rfl rfl)
theorem dX8_goesBy_55 : decode cX8_goesBy 55 = .ok (.ireturn, 1) := dk_172 (dk_at dksX8_goesBy_2 9 rfl rfl)
abbrev cX8_worth : ByteArray := prog_15_method_65_code
def yX8_worth : MethodName := ⟨RX8, "worth", "(ZZ)I"⟩
def dkwX8_worth_3 : List UInt8 := [184, 1, 4, 54, 4, 132, 5, 1, 167, 255, 201, 21, 4, 172]
abbrev dktX8_worth_3 : List UInt8 := dkwX8_worth_3 ++ []
def dkwX8_worth_2 : List UInt8 := [21, 6, 167, 0, 24, 27, 153, 0, 13, 21, 4, 21, 6, 184, 0, 163, 167, 0, 10, 21, 4, 21, 6]
abbrev dktX8_worth_2 : List UInt8 := dkwX8_worth_2 ++ dktX8_worth_3
def dkwX8_worth_1 : List UInt8 := [21, 5, 29, 162, 0, 55, 42, 21, 5, 182, 0, 249, 42, 4, 182, 0, 253, 54, 6, 21, 5, 154, 0, 8]
abbrev dktX8_worth_1 : List UInt8 := dkwX8_worth_1 ++ dktX8_worth_2
def dkwX8_worth_0 : List UInt8 := [42, 182, 0, 245, 62, 42, 29, 154, 0, 7, 4, 167, 0, 4, 3, 181, 0, 64, 3, 54, 4, 3, 54, 5]
abbrev dktX8_worth_0 : List UInt8 := dkwX8_worth_0 ++ dktX8_worth_1
theorem dksX8_worth_0 : cX8_worth.data.toList.drop 0 = dktX8_worth_0 := by decide +kernel
theorem dksX8_worth_1 : cX8_worth.data.toList.drop 24 = dktX8_worth_1 := dk_seg dksX8_worth_0 24 rfl rfl
theorem dksX8_worth_2 : cX8_worth.data.toList.drop 48 = dktX8_worth_2 := dk_seg dksX8_worth_1 24 rfl rfl
theorem dksX8_worth_3 : cX8_worth.data.toList.drop 71 = dktX8_worth_3 := dk_seg dksX8_worth_2 23 rfl rfl
theorem dX8_worth_0 : decode cX8_worth 0 = .ok (.aload_n 0, 1) := dk_42 (dk_at dksX8_worth_0 0 rfl rfl)
theorem dX8_worth_1 : decode cX8_worth 1 = .ok (.invokevirtual 245, 3) := dk_182 0 245 (dk_at dksX8_worth_0 1 rfl rfl)
theorem dX8_worth_4 : decode cX8_worth 4 = .ok (.istore_n 3, 1) := dk_62 (dk_at dksX8_worth_0 4 rfl rfl)
theorem dX8_worth_5 : decode cX8_worth 5 = .ok (.aload_n 0, 1) := dk_42 (dk_at dksX8_worth_0 5 rfl rfl)
theorem dX8_worth_6 : decode cX8_worth 6 = .ok (.iload_n 3, 1) := dk_29 (dk_at dksX8_worth_0 6 rfl rfl)
theorem dX8_worth_7 : decode cX8_worth 7 = .ok (.ifCond .ne 7, 3) := dk_154 0 7 (dk_at dksX8_worth_0 7 rfl rfl)
theorem dX8_worth_10 : decode cX8_worth 10 = .ok (.iconst 1, 1) := dk_4 (dk_at dksX8_worth_0 10 rfl rfl)
theorem dX8_worth_11 : decode cX8_worth 11 = .ok (.goto 4, 3) := dk_167 0 4 (dk_at dksX8_worth_0 11 rfl rfl)
theorem dX8_worth_14 : decode cX8_worth 14 = .ok (.iconst 0, 1) := dk_3 (dk_at dksX8_worth_0 14 rfl rfl)
theorem dX8_worth_15 : decode cX8_worth 15 = .ok (.putfield 64, 3) := dk_181 0 64 (dk_at dksX8_worth_0 15 rfl rfl)
theorem dX8_worth_18 : decode cX8_worth 18 = .ok (.iconst 0, 1) := dk_3 (dk_at dksX8_worth_0 18 rfl rfl)
theorem dX8_worth_19 : decode cX8_worth 19 = .ok (.istore 4, 2) := dk_54 4 (dk_at dksX8_worth_0 19 rfl rfl)
theorem dX8_worth_21 : decode cX8_worth 21 = .ok (.iconst 0, 1) := dk_3 (dk_at dksX8_worth_0 21 rfl rfl)
theorem dX8_worth_22 : decode cX8_worth 22 = .ok (.istore 5, 2) := dk_54 5 (dk_at dksX8_worth_0 22 rfl rfl)
theorem dX8_worth_24 : decode cX8_worth 24 = .ok (.iload 5, 2) := dk_21 5 (dk_at dksX8_worth_1 0 rfl rfl)
theorem dX8_worth_26 : decode cX8_worth 26 = .ok (.iload_n 3, 1) := dk_29 (dk_at dksX8_worth_1 2 rfl rfl)
theorem dX8_worth_27 : decode cX8_worth 27 = .ok (.if_icmp .ge 55, 3) := dk_162 0 55 (dk_at dksX8_worth_1 3 rfl rfl)
theorem dX8_worth_30 : decode cX8_worth 30 = .ok (.aload_n 0, 1) := dk_42 (dk_at dksX8_worth_1 6 rfl rfl)
theorem dX8_worth_31 : decode cX8_worth 31 = .ok (.iload 5, 2) := dk_21 5 (dk_at dksX8_worth_1 7 rfl rfl)
theorem dX8_worth_33 : decode cX8_worth 33 = .ok (.invokevirtual 249, 3) := dk_182 0 249 (dk_at dksX8_worth_1 9 rfl rfl)
theorem dX8_worth_36 : decode cX8_worth 36 = .ok (.aload_n 0, 1) := dk_42 (dk_at dksX8_worth_1 12 rfl rfl)
theorem dX8_worth_37 : decode cX8_worth 37 = .ok (.iconst 1, 1) := dk_4 (dk_at dksX8_worth_1 13 rfl rfl)
theorem dX8_worth_38 : decode cX8_worth 38 = .ok (.invokevirtual 253, 3) := dk_182 0 253 (dk_at dksX8_worth_1 14 rfl rfl)
theorem dX8_worth_41 : decode cX8_worth 41 = .ok (.istore 6, 2) := dk_54 6 (dk_at dksX8_worth_1 17 rfl rfl)
theorem dX8_worth_43 : decode cX8_worth 43 = .ok (.iload 5, 2) := dk_21 5 (dk_at dksX8_worth_1 19 rfl rfl)
theorem dX8_worth_45 : decode cX8_worth 45 = .ok (.ifCond .ne 8, 3) := dk_154 0 8 (dk_at dksX8_worth_1 21 rfl rfl)
theorem dX8_worth_48 : decode cX8_worth 48 = .ok (.iload 6, 2) := dk_21 6 (dk_at dksX8_worth_2 0 rfl rfl)
theorem dX8_worth_50 : decode cX8_worth 50 = .ok (.goto 24, 3) := dk_167 0 24 (dk_at dksX8_worth_2 2 rfl rfl)
theorem dX8_worth_53 : decode cX8_worth 53 = .ok (.iload_n 1, 1) := dk_27 (dk_at dksX8_worth_2 5 rfl rfl)
theorem dX8_worth_54 : decode cX8_worth 54 = .ok (.ifCond .eq 13, 3) := dk_153 0 13 (dk_at dksX8_worth_2 6 rfl rfl)
theorem dX8_worth_57 : decode cX8_worth 57 = .ok (.iload 4, 2) := dk_21 4 (dk_at dksX8_worth_2 9 rfl rfl)
theorem dX8_worth_59 : decode cX8_worth 59 = .ok (.iload 6, 2) := dk_21 6 (dk_at dksX8_worth_2 11 rfl rfl)
theorem dX8_worth_61 : decode cX8_worth 61 = .ok (.invokestatic 163, 3) := dk_184 0 163 (dk_at dksX8_worth_2 13 rfl rfl)
theorem dX8_worth_64 : decode cX8_worth 64 = .ok (.goto 10, 3) := dk_167 0 10 (dk_at dksX8_worth_2 16 rfl rfl)
theorem dX8_worth_67 : decode cX8_worth 67 = .ok (.iload 4, 2) := dk_21 4 (dk_at dksX8_worth_2 19 rfl rfl)
theorem dX8_worth_69 : decode cX8_worth 69 = .ok (.iload 6, 2) := dk_21 6 (dk_at dksX8_worth_2 21 rfl rfl)
theorem dX8_worth_71 : decode cX8_worth 71 = .ok (.invokestatic 260, 3) := dk_184 1 4 (dk_at dksX8_worth_3 0 rfl rfl)
theorem dX8_worth_74 : decode cX8_worth 74 = .ok (.istore 4, 2) := dk_54 4 (dk_at dksX8_worth_3 3 rfl rfl)
theorem dX8_worth_76 : decode cX8_worth 76 = .ok (.iinc 5 1, 3) := dk_132 5 1 (dk_at dksX8_worth_3 5 rfl rfl)
theorem dX8_worth_79 : decode cX8_worth 79 = .ok (.goto (-55), 3) := dk_167 255 201 (dk_at dksX8_worth_3 8 rfl rfl)
theorem dX8_worth_82 : decode cX8_worth 82 = .ok (.iload 4, 2) := dk_21 4 (dk_at dksX8_worth_3 11 rfl rfl)
theorem dX8_worth_84 : decode cX8_worth 84 = .ok (.ireturn, 1) := dk_172 (dk_at dksX8_worth_3 13 rfl rfl)
abbrev cX8_tithes : ByteArray := prog_15_method_67_code
def yX8_tithes : MethodName := ⟨RX8, "tithes", "(I)F"⟩
def dkwX8_tithes_1 : List UInt8 := [180, 0, 64, 158, 0, 7, 11, 167, 0, 8, 42, 27, 182, 1, 7, 174]
abbrev dktX8_tithes_1 : List UInt8 := dkwX8_tithes_1 ++ []
def dkwX8_tithes_0 : List UInt8 := [42, 27, 3, 42, 182, 0, 245, 4, 100, 184, 0, 82, 153, 0, 7, 3, 167, 0, 4, 4, 181, 0, 64, 42]
abbrev dktX8_tithes_0 : List UInt8 := dkwX8_tithes_0 ++ dktX8_tithes_1
theorem dksX8_tithes_0 : cX8_tithes.data.toList.drop 0 = dktX8_tithes_0 := by decide +kernel
theorem dksX8_tithes_1 : cX8_tithes.data.toList.drop 24 = dktX8_tithes_1 := dk_seg dksX8_tithes_0 24 rfl rfl
theorem dX8_tithes_0 : decode cX8_tithes 0 = .ok (.aload_n 0, 1) := dk_42 (dk_at dksX8_tithes_0 0 rfl rfl)
theorem dX8_tithes_1 : decode cX8_tithes 1 = .ok (.iload_n 1, 1) := dk_27 (dk_at dksX8_tithes_0 1 rfl rfl)
theorem dX8_tithes_2 : decode cX8_tithes 2 = .ok (.iconst 0, 1) := dk_3 (dk_at dksX8_tithes_0 2 rfl rfl)
theorem dX8_tithes_3 : decode cX8_tithes 3 = .ok (.aload_n 0, 1) := dk_42 (dk_at dksX8_tithes_0 3 rfl rfl)
theorem dX8_tithes_4 : decode cX8_tithes 4 = .ok (.invokevirtual 245, 3) := dk_182 0 245 (dk_at dksX8_tithes_0 4 rfl rfl)
theorem dX8_tithes_7 : decode cX8_tithes 7 = .ok (.iconst 1, 1) := dk_4 (dk_at dksX8_tithes_0 7 rfl rfl)
theorem dX8_tithes_8 : decode cX8_tithes 8 = .ok (.isub, 1) := dk_100 (dk_at dksX8_tithes_0 8 rfl rfl)
theorem dX8_tithes_9 : decode cX8_tithes 9 = .ok (.invokestatic 82, 3) := dk_184 0 82 (dk_at dksX8_tithes_0 9 rfl rfl)
theorem dX8_tithes_12 : decode cX8_tithes 12 = .ok (.ifCond .eq 7, 3) := dk_153 0 7 (dk_at dksX8_tithes_0 12 rfl rfl)
theorem dX8_tithes_15 : decode cX8_tithes 15 = .ok (.iconst 0, 1) := dk_3 (dk_at dksX8_tithes_0 15 rfl rfl)
theorem dX8_tithes_16 : decode cX8_tithes 16 = .ok (.goto 4, 3) := dk_167 0 4 (dk_at dksX8_tithes_0 16 rfl rfl)
theorem dX8_tithes_19 : decode cX8_tithes 19 = .ok (.iconst 1, 1) := dk_4 (dk_at dksX8_tithes_0 19 rfl rfl)
theorem dX8_tithes_20 : decode cX8_tithes 20 = .ok (.putfield 64, 3) := dk_181 0 64 (dk_at dksX8_tithes_0 20 rfl rfl)
theorem dX8_tithes_23 : decode cX8_tithes 23 = .ok (.aload_n 0, 1) := dk_42 (dk_at dksX8_tithes_0 23 rfl rfl)
theorem dX8_tithes_24 : decode cX8_tithes 24 = .ok (.getfield 64, 3) := dk_180 0 64 (dk_at dksX8_tithes_1 0 rfl rfl)
theorem dX8_tithes_27 : decode cX8_tithes 27 = .ok (.ifCond .le 7, 3) := dk_158 0 7 (dk_at dksX8_tithes_1 3 rfl rfl)
theorem dX8_tithes_30 : decode cX8_tithes 30 = .ok (.fconst 0, 1) := dk_11 (dk_at dksX8_tithes_1 6 rfl rfl)
theorem dX8_tithes_31 : decode cX8_tithes 31 = .ok (.goto 8, 3) := dk_167 0 8 (dk_at dksX8_tithes_1 7 rfl rfl)
theorem dX8_tithes_34 : decode cX8_tithes 34 = .ok (.aload_n 0, 1) := dk_42 (dk_at dksX8_tithes_1 10 rfl rfl)
theorem dX8_tithes_35 : decode cX8_tithes 35 = .ok (.iload_n 1, 1) := dk_27 (dk_at dksX8_tithes_1 11 rfl rfl)
theorem dX8_tithes_36 : decode cX8_tithes 36 = .ok (.invokevirtual 263, 3) := dk_182 1 7 (dk_at dksX8_tithes_1 12 rfl rfl)
theorem dX8_tithes_39 : decode cX8_tithes 39 = .ok (.freturn, 1) := dk_174 (dk_at dksX8_tithes_1 15 rfl rfl)
abbrev cX8_tithesOf : ByteArray := prog_15_method_66_code
def yX8_tithesOf : MethodName := ⟨RX8, "tithesOf", "(I)F"⟩
def dkwX8_tithesOf_2 : List UInt8 := [69, 132, 3, 1, 167, 255, 213, 36, 174]
abbrev dktX8_tithesOf_2 : List UInt8 := dkwX8_tithesOf_2 ++ []
def dkwX8_tithesOf_1 : List UInt8 := [51, 153, 0, 24, 42, 29, 182, 0, 110, 6, 160, 0, 15, 36, 42, 42, 29, 182, 0, 133, 182, 0, 124, 98]
abbrev dktX8_tithesOf_1 : List UInt8 := dkwX8_tithesOf_1 ++ dktX8_tithesOf_2
def dkwX8_tithesOf_0 : List UInt8 := [42, 27, 182, 0, 249, 11, 69, 3, 62, 29, 42, 180, 0, 9, 4, 46, 162, 0, 39, 42, 180, 0, 46, 29]
abbrev dktX8_tithesOf_0 : List UInt8 := dkwX8_tithesOf_0 ++ dktX8_tithesOf_1
theorem dksX8_tithesOf_0 : cX8_tithesOf.data.toList.drop 0 = dktX8_tithesOf_0 := by decide +kernel
theorem dksX8_tithesOf_1 : cX8_tithesOf.data.toList.drop 24 = dktX8_tithesOf_1 := dk_seg dksX8_tithesOf_0 24 rfl rfl
theorem dksX8_tithesOf_2 : cX8_tithesOf.data.toList.drop 48 = dktX8_tithesOf_2 := dk_seg dksX8_tithesOf_1 24 rfl rfl
theorem dX8_tithesOf_0 : decode cX8_tithesOf 0 = .ok (.aload_n 0, 1) := dk_42 (dk_at dksX8_tithesOf_0 0 rfl rfl)
theorem dX8_tithesOf_1 : decode cX8_tithesOf 1 = .ok (.iload_n 1, 1) := dk_27 (dk_at dksX8_tithesOf_0 1 rfl rfl)
theorem dX8_tithesOf_2 : decode cX8_tithesOf 2 = .ok (.invokevirtual 249, 3) := dk_182 0 249 (dk_at dksX8_tithesOf_0 2 rfl rfl)
theorem dX8_tithesOf_5 : decode cX8_tithesOf 5 = .ok (.fconst 0, 1) := dk_11 (dk_at dksX8_tithesOf_0 5 rfl rfl)
theorem dX8_tithesOf_6 : decode cX8_tithesOf 6 = .ok (.fstore_n 2, 1) := dk_69 (dk_at dksX8_tithesOf_0 6 rfl rfl)
theorem dX8_tithesOf_7 : decode cX8_tithesOf 7 = .ok (.iconst 0, 1) := dk_3 (dk_at dksX8_tithesOf_0 7 rfl rfl)
theorem dX8_tithesOf_8 : decode cX8_tithesOf 8 = .ok (.istore_n 3, 1) := dk_62 (dk_at dksX8_tithesOf_0 8 rfl rfl)
theorem dX8_tithesOf_9 : decode cX8_tithesOf 9 = .ok (.iload_n 3, 1) := dk_29 (dk_at dksX8_tithesOf_0 9 rfl rfl)
theorem dX8_tithesOf_10 : decode cX8_tithesOf 10 = .ok (.aload_n 0, 1) := dk_42 (dk_at dksX8_tithesOf_0 10 rfl rfl)
theorem dX8_tithesOf_11 : decode cX8_tithesOf 11 = .ok (.getfield 9, 3) := dk_180 0 9 (dk_at dksX8_tithesOf_0 11 rfl rfl)
theorem dX8_tithesOf_14 : decode cX8_tithesOf 14 = .ok (.iconst 1, 1) := dk_4 (dk_at dksX8_tithesOf_0 14 rfl rfl)
theorem dX8_tithesOf_15 : decode cX8_tithesOf 15 = .ok (.iaload, 1) := dk_46 (dk_at dksX8_tithesOf_0 15 rfl rfl)
theorem dX8_tithesOf_16 : decode cX8_tithesOf 16 = .ok (.if_icmp .ge 39, 3) := dk_162 0 39 (dk_at dksX8_tithesOf_0 16 rfl rfl)
theorem dX8_tithesOf_19 : decode cX8_tithesOf 19 = .ok (.aload_n 0, 1) := dk_42 (dk_at dksX8_tithesOf_0 19 rfl rfl)
theorem dX8_tithesOf_20 : decode cX8_tithesOf 20 = .ok (.getfield 46, 3) := dk_180 0 46 (dk_at dksX8_tithesOf_0 20 rfl rfl)
theorem dX8_tithesOf_23 : decode cX8_tithesOf 23 = .ok (.iload_n 3, 1) := dk_29 (dk_at dksX8_tithesOf_0 23 rfl rfl)
theorem dX8_tithesOf_24 : decode cX8_tithesOf 24 = .ok (.baload, 1) := dk_51 (dk_at dksX8_tithesOf_1 0 rfl rfl)
theorem dX8_tithesOf_25 : decode cX8_tithesOf 25 = .ok (.ifCond .eq 24, 3) := dk_153 0 24 (dk_at dksX8_tithesOf_1 1 rfl rfl)
theorem dX8_tithesOf_28 : decode cX8_tithesOf 28 = .ok (.aload_n 0, 1) := dk_42 (dk_at dksX8_tithesOf_1 4 rfl rfl)
theorem dX8_tithesOf_29 : decode cX8_tithesOf 29 = .ok (.iload_n 3, 1) := dk_29 (dk_at dksX8_tithesOf_1 5 rfl rfl)
theorem dX8_tithesOf_30 : decode cX8_tithesOf 30 = .ok (.invokevirtual 110, 3) := dk_182 0 110 (dk_at dksX8_tithesOf_1 6 rfl rfl)
theorem dX8_tithesOf_33 : decode cX8_tithesOf 33 = .ok (.iconst 3, 1) := dk_6 (dk_at dksX8_tithesOf_1 9 rfl rfl)
theorem dX8_tithesOf_34 : decode cX8_tithesOf 34 = .ok (.if_icmp .ne 15, 3) := dk_160 0 15 (dk_at dksX8_tithesOf_1 10 rfl rfl)
theorem dX8_tithesOf_37 : decode cX8_tithesOf 37 = .ok (.fload_n 2, 1) := dk_36 (dk_at dksX8_tithesOf_1 13 rfl rfl)
theorem dX8_tithesOf_38 : decode cX8_tithesOf 38 = .ok (.aload_n 0, 1) := dk_42 (dk_at dksX8_tithesOf_1 14 rfl rfl)
theorem dX8_tithesOf_39 : decode cX8_tithesOf 39 = .ok (.aload_n 0, 1) := dk_42 (dk_at dksX8_tithesOf_1 15 rfl rfl)
theorem dX8_tithesOf_40 : decode cX8_tithesOf 40 = .ok (.iload_n 3, 1) := dk_29 (dk_at dksX8_tithesOf_1 16 rfl rfl)
theorem dX8_tithesOf_41 : decode cX8_tithesOf 41 = .ok (.invokevirtual 133, 3) := dk_182 0 133 (dk_at dksX8_tithesOf_1 17 rfl rfl)
theorem dX8_tithesOf_44 : decode cX8_tithesOf 44 = .ok (.invokevirtual 124, 3) := dk_182 0 124 (dk_at dksX8_tithesOf_1 20 rfl rfl)
theorem dX8_tithesOf_47 : decode cX8_tithesOf 47 = .ok (.fadd, 1) := dk_98 (dk_at dksX8_tithesOf_1 23 rfl rfl)
theorem dX8_tithesOf_48 : decode cX8_tithesOf 48 = .ok (.fstore_n 2, 1) := dk_69 (dk_at dksX8_tithesOf_2 0 rfl rfl)
theorem dX8_tithesOf_49 : decode cX8_tithesOf 49 = .ok (.iinc 3 1, 3) := dk_132 3 1 (dk_at dksX8_tithesOf_2 1 rfl rfl)
theorem dX8_tithesOf_52 : decode cX8_tithesOf 52 = .ok (.goto (-43), 3) := dk_167 255 213 (dk_at dksX8_tithesOf_2 4 rfl rfl)
theorem dX8_tithesOf_55 : decode cX8_tithesOf 55 = .ok (.fload_n 2, 1) := dk_36 (dk_at dksX8_tithesOf_2 7 rfl rfl)
theorem dX8_tithesOf_56 : decode cX8_tithesOf 56 = .ok (.freturn, 1) := dk_174 (dk_at dksX8_tithesOf_2 8 rfl rfl)
abbrev cX8_richest : ByteArray := prog_15_method_68_code
def yX8_richest : MethodName := ⟨RX8, "richest", "()I"⟩
def dkwX8_richest_2 : List UInt8 := [132, 3, 1, 167, 255, 228, 28, 172]
abbrev dktX8_richest_2 : List UInt8 := dkwX8_richest_2 ++ []
def dkwX8_richest_1 : List UInt8 := [162, 0, 29, 42, 29, 182, 1, 7, 42, 28, 182, 1, 7, 149, 158, 0, 7, 29, 167, 0, 4, 28, 61]
abbrev dktX8_richest_1 : List UInt8 := dkwX8_richest_1 ++ dktX8_richest_2
def dkwX8_richest_0 : List UInt8 := [42, 182, 0, 245, 60, 42, 27, 154, 0, 7, 4, 167, 0, 4, 3, 181, 0, 64, 3, 61, 4, 62, 29, 27]
abbrev dktX8_richest_0 : List UInt8 := dkwX8_richest_0 ++ dktX8_richest_1
theorem dksX8_richest_0 : cX8_richest.data.toList.drop 0 = dktX8_richest_0 := by decide +kernel
theorem dksX8_richest_1 : cX8_richest.data.toList.drop 24 = dktX8_richest_1 := dk_seg dksX8_richest_0 24 rfl rfl
theorem dksX8_richest_2 : cX8_richest.data.toList.drop 47 = dktX8_richest_2 := dk_seg dksX8_richest_1 23 rfl rfl
theorem dX8_richest_0 : decode cX8_richest 0 = .ok (.aload_n 0, 1) := dk_42 (dk_at dksX8_richest_0 0 rfl rfl)
theorem dX8_richest_1 : decode cX8_richest 1 = .ok (.invokevirtual 245, 3) := dk_182 0 245 (dk_at dksX8_richest_0 1 rfl rfl)
theorem dX8_richest_4 : decode cX8_richest 4 = .ok (.istore_n 1, 1) := dk_60 (dk_at dksX8_richest_0 4 rfl rfl)
theorem dX8_richest_5 : decode cX8_richest 5 = .ok (.aload_n 0, 1) := dk_42 (dk_at dksX8_richest_0 5 rfl rfl)
theorem dX8_richest_6 : decode cX8_richest 6 = .ok (.iload_n 1, 1) := dk_27 (dk_at dksX8_richest_0 6 rfl rfl)
theorem dX8_richest_7 : decode cX8_richest 7 = .ok (.ifCond .ne 7, 3) := dk_154 0 7 (dk_at dksX8_richest_0 7 rfl rfl)
theorem dX8_richest_10 : decode cX8_richest 10 = .ok (.iconst 1, 1) := dk_4 (dk_at dksX8_richest_0 10 rfl rfl)
theorem dX8_richest_11 : decode cX8_richest 11 = .ok (.goto 4, 3) := dk_167 0 4 (dk_at dksX8_richest_0 11 rfl rfl)
theorem dX8_richest_14 : decode cX8_richest 14 = .ok (.iconst 0, 1) := dk_3 (dk_at dksX8_richest_0 14 rfl rfl)
theorem dX8_richest_15 : decode cX8_richest 15 = .ok (.putfield 64, 3) := dk_181 0 64 (dk_at dksX8_richest_0 15 rfl rfl)
theorem dX8_richest_18 : decode cX8_richest 18 = .ok (.iconst 0, 1) := dk_3 (dk_at dksX8_richest_0 18 rfl rfl)
theorem dX8_richest_19 : decode cX8_richest 19 = .ok (.istore_n 2, 1) := dk_61 (dk_at dksX8_richest_0 19 rfl rfl)
theorem dX8_richest_20 : decode cX8_richest 20 = .ok (.iconst 1, 1) := dk_4 (dk_at dksX8_richest_0 20 rfl rfl)
theorem dX8_richest_21 : decode cX8_richest 21 = .ok (.istore_n 3, 1) := dk_62 (dk_at dksX8_richest_0 21 rfl rfl)
theorem dX8_richest_22 : decode cX8_richest 22 = .ok (.iload_n 3, 1) := dk_29 (dk_at dksX8_richest_0 22 rfl rfl)
theorem dX8_richest_23 : decode cX8_richest 23 = .ok (.iload_n 1, 1) := dk_27 (dk_at dksX8_richest_0 23 rfl rfl)
theorem dX8_richest_24 : decode cX8_richest 24 = .ok (.if_icmp .ge 29, 3) := dk_162 0 29 (dk_at dksX8_richest_1 0 rfl rfl)
theorem dX8_richest_27 : decode cX8_richest 27 = .ok (.aload_n 0, 1) := dk_42 (dk_at dksX8_richest_1 3 rfl rfl)
theorem dX8_richest_28 : decode cX8_richest 28 = .ok (.iload_n 3, 1) := dk_29 (dk_at dksX8_richest_1 4 rfl rfl)
theorem dX8_richest_29 : decode cX8_richest 29 = .ok (.invokevirtual 263, 3) := dk_182 1 7 (dk_at dksX8_richest_1 5 rfl rfl)
theorem dX8_richest_32 : decode cX8_richest 32 = .ok (.aload_n 0, 1) := dk_42 (dk_at dksX8_richest_1 8 rfl rfl)
theorem dX8_richest_33 : decode cX8_richest 33 = .ok (.iload_n 2, 1) := dk_28 (dk_at dksX8_richest_1 9 rfl rfl)
theorem dX8_richest_34 : decode cX8_richest 34 = .ok (.invokevirtual 263, 3) := dk_182 1 7 (dk_at dksX8_richest_1 10 rfl rfl)
theorem dX8_richest_37 : decode cX8_richest 37 = .ok (.fcmp .l, 1) := dk_149 (dk_at dksX8_richest_1 13 rfl rfl)
theorem dX8_richest_38 : decode cX8_richest 38 = .ok (.ifCond .le 7, 3) := dk_158 0 7 (dk_at dksX8_richest_1 14 rfl rfl)
theorem dX8_richest_41 : decode cX8_richest 41 = .ok (.iload_n 3, 1) := dk_29 (dk_at dksX8_richest_1 17 rfl rfl)
theorem dX8_richest_42 : decode cX8_richest 42 = .ok (.goto 4, 3) := dk_167 0 4 (dk_at dksX8_richest_1 18 rfl rfl)
theorem dX8_richest_45 : decode cX8_richest 45 = .ok (.iload_n 2, 1) := dk_28 (dk_at dksX8_richest_1 21 rfl rfl)
theorem dX8_richest_46 : decode cX8_richest 46 = .ok (.istore_n 2, 1) := dk_61 (dk_at dksX8_richest_1 22 rfl rfl)
theorem dX8_richest_47 : decode cX8_richest 47 = .ok (.iinc 3 1, 3) := dk_132 3 1 (dk_at dksX8_richest_2 0 rfl rfl)
theorem dX8_richest_50 : decode cX8_richest 50 = .ok (.goto (-28), 3) := dk_167 255 228 (dk_at dksX8_richest_2 3 rfl rfl)
theorem dX8_richest_53 : decode cX8_richest 53 = .ok (.iload_n 2, 1) := dk_28 (dk_at dksX8_richest_2 6 rfl rfl)
theorem dX8_richest_54 : decode cX8_richest 54 = .ok (.ireturn, 1) := dk_172 (dk_at dksX8_richest_2 7 rfl rfl)
abbrev cX8_line : ByteArray := prog_15_method_70_code
def yX8_line : MethodName := ⟨RX8, "line", "()I"⟩
def dkwX8_line_4 : List UInt8 := [180, 1, 10, 172]
abbrev dktX8_line_4 : List UInt8 := dkwX8_line_4 ++ []
def dkwX8_line_3 : List UInt8 := [153, 0, 16, 42, 16, 48, 42, 27, 182, 0, 113, 96, 146, 182, 1, 21, 132, 1, 1, 167, 255, 179, 42]
abbrev dktX8_line_3 : List UInt8 := dkwX8_line_3 ++ dktX8_line_4
def dkwX8_line_2 : List UInt8 := [184, 0, 139, 153, 0, 16, 42, 16, 48, 42, 27, 182, 0, 133, 96, 146, 182, 1, 21, 28, 184, 0, 142]
abbrev dktX8_line_2 : List UInt8 := dkwX8_line_2 ++ dktX8_line_3
def dkwX8_line_1 : List UInt8 := [182, 0, 110, 61, 42, 19, 1, 13, 28, 182, 1, 15, 182, 1, 21, 28, 184, 0, 136, 154, 0, 10, 28]
abbrev dktX8_line_1 : List UInt8 := dkwX8_line_1 ++ dktX8_line_2
def dkwX8_line_0 : List UInt8 := [42, 3, 181, 0, 64, 42, 3, 181, 1, 10, 3, 60, 27, 42, 180, 0, 9, 4, 46, 162, 0, 73, 42, 27]
abbrev dktX8_line_0 : List UInt8 := dkwX8_line_0 ++ dktX8_line_1
theorem dksX8_line_0 : cX8_line.data.toList.drop 0 = dktX8_line_0 := by decide +kernel
theorem dksX8_line_1 : cX8_line.data.toList.drop 24 = dktX8_line_1 := dk_seg dksX8_line_0 24 rfl rfl
theorem dksX8_line_2 : cX8_line.data.toList.drop 47 = dktX8_line_2 := dk_seg dksX8_line_1 23 rfl rfl
theorem dksX8_line_3 : cX8_line.data.toList.drop 70 = dktX8_line_3 := dk_seg dksX8_line_2 23 rfl rfl
theorem dksX8_line_4 : cX8_line.data.toList.drop 93 = dktX8_line_4 := dk_seg dksX8_line_3 23 rfl rfl
theorem dX8_line_0 : decode cX8_line 0 = .ok (.aload_n 0, 1) := dk_42 (dk_at dksX8_line_0 0 rfl rfl)
theorem dX8_line_1 : decode cX8_line 1 = .ok (.iconst 0, 1) := dk_3 (dk_at dksX8_line_0 1 rfl rfl)
theorem dX8_line_2 : decode cX8_line 2 = .ok (.putfield 64, 3) := dk_181 0 64 (dk_at dksX8_line_0 2 rfl rfl)
theorem dX8_line_5 : decode cX8_line 5 = .ok (.aload_n 0, 1) := dk_42 (dk_at dksX8_line_0 5 rfl rfl)
theorem dX8_line_6 : decode cX8_line 6 = .ok (.iconst 0, 1) := dk_3 (dk_at dksX8_line_0 6 rfl rfl)
theorem dX8_line_7 : decode cX8_line 7 = .ok (.putfield 266, 3) := dk_181 1 10 (dk_at dksX8_line_0 7 rfl rfl)
theorem dX8_line_10 : decode cX8_line 10 = .ok (.iconst 0, 1) := dk_3 (dk_at dksX8_line_0 10 rfl rfl)
theorem dX8_line_11 : decode cX8_line 11 = .ok (.istore_n 1, 1) := dk_60 (dk_at dksX8_line_0 11 rfl rfl)
theorem dX8_line_12 : decode cX8_line 12 = .ok (.iload_n 1, 1) := dk_27 (dk_at dksX8_line_0 12 rfl rfl)
theorem dX8_line_13 : decode cX8_line 13 = .ok (.aload_n 0, 1) := dk_42 (dk_at dksX8_line_0 13 rfl rfl)
theorem dX8_line_14 : decode cX8_line 14 = .ok (.getfield 9, 3) := dk_180 0 9 (dk_at dksX8_line_0 14 rfl rfl)
theorem dX8_line_17 : decode cX8_line 17 = .ok (.iconst 1, 1) := dk_4 (dk_at dksX8_line_0 17 rfl rfl)
theorem dX8_line_18 : decode cX8_line 18 = .ok (.iaload, 1) := dk_46 (dk_at dksX8_line_0 18 rfl rfl)
theorem dX8_line_19 : decode cX8_line 19 = .ok (.if_icmp .ge 73, 3) := dk_162 0 73 (dk_at dksX8_line_0 19 rfl rfl)
theorem dX8_line_22 : decode cX8_line 22 = .ok (.aload_n 0, 1) := dk_42 (dk_at dksX8_line_0 22 rfl rfl)
theorem dX8_line_23 : decode cX8_line 23 = .ok (.iload_n 1, 1) := dk_27 (dk_at dksX8_line_0 23 rfl rfl)
theorem dX8_line_24 : decode cX8_line 24 = .ok (.invokevirtual 110, 3) := dk_182 0 110 (dk_at dksX8_line_1 0 rfl rfl)
theorem dX8_line_27 : decode cX8_line 27 = .ok (.istore_n 2, 1) := dk_61 (dk_at dksX8_line_1 3 rfl rfl)
theorem dX8_line_28 : decode cX8_line 28 = .ok (.aload_n 0, 1) := dk_42 (dk_at dksX8_line_1 4 rfl rfl)
theorem dX8_line_29 : decode cX8_line 29 = .ok (.ldc_w 269, 3) := dk_19 1 13 (dk_at dksX8_line_1 5 rfl rfl)
theorem dX8_line_32 : decode cX8_line 32 = .ok (.iload_n 2, 1) := dk_28 (dk_at dksX8_line_1 8 rfl rfl)
theorem dX8_line_33 : decode cX8_line 33 = .ok (.invokevirtual 271, 3) := dk_182 1 15 (dk_at dksX8_line_1 9 rfl rfl)
theorem dX8_line_36 : decode cX8_line 36 = .ok (.invokevirtual 277, 3) := dk_182 1 21 (dk_at dksX8_line_1 12 rfl rfl)
theorem dX8_line_39 : decode cX8_line 39 = .ok (.iload_n 2, 1) := dk_28 (dk_at dksX8_line_1 15 rfl rfl)
theorem dX8_line_40 : decode cX8_line 40 = .ok (.invokestatic 136, 3) := dk_184 0 136 (dk_at dksX8_line_1 16 rfl rfl)
theorem dX8_line_43 : decode cX8_line 43 = .ok (.ifCond .ne 10, 3) := dk_154 0 10 (dk_at dksX8_line_1 19 rfl rfl)
theorem dX8_line_46 : decode cX8_line 46 = .ok (.iload_n 2, 1) := dk_28 (dk_at dksX8_line_1 22 rfl rfl)
theorem dX8_line_47 : decode cX8_line 47 = .ok (.invokestatic 139, 3) := dk_184 0 139 (dk_at dksX8_line_2 0 rfl rfl)
theorem dX8_line_50 : decode cX8_line 50 = .ok (.ifCond .eq 16, 3) := dk_153 0 16 (dk_at dksX8_line_2 3 rfl rfl)
theorem dX8_line_53 : decode cX8_line 53 = .ok (.aload_n 0, 1) := dk_42 (dk_at dksX8_line_2 6 rfl rfl)
theorem dX8_line_54 : decode cX8_line 54 = .ok (.bipush 48, 2) := dk_16 48 (dk_at dksX8_line_2 7 rfl rfl)
theorem dX8_line_56 : decode cX8_line 56 = .ok (.aload_n 0, 1) := dk_42 (dk_at dksX8_line_2 9 rfl rfl)
theorem dX8_line_57 : decode cX8_line 57 = .ok (.iload_n 1, 1) := dk_27 (dk_at dksX8_line_2 10 rfl rfl)
theorem dX8_line_58 : decode cX8_line 58 = .ok (.invokevirtual 133, 3) := dk_182 0 133 (dk_at dksX8_line_2 11 rfl rfl)
theorem dX8_line_61 : decode cX8_line 61 = .ok (.iadd, 1) := dk_96 (dk_at dksX8_line_2 14 rfl rfl)
theorem dX8_line_62 : decode cX8_line 62 = .ok (.i2c, 1) := dk_146 (dk_at dksX8_line_2 15 rfl rfl)
theorem dX8_line_63 : decode cX8_line 63 = .ok (.invokevirtual 277, 3) := dk_182 1 21 (dk_at dksX8_line_2 16 rfl rfl)
theorem dX8_line_66 : decode cX8_line 66 = .ok (.iload_n 2, 1) := dk_28 (dk_at dksX8_line_2 19 rfl rfl)
theorem dX8_line_67 : decode cX8_line 67 = .ok (.invokestatic 142, 3) := dk_184 0 142 (dk_at dksX8_line_2 20 rfl rfl)
theorem dX8_line_70 : decode cX8_line 70 = .ok (.ifCond .eq 16, 3) := dk_153 0 16 (dk_at dksX8_line_3 0 rfl rfl)
theorem dX8_line_73 : decode cX8_line 73 = .ok (.aload_n 0, 1) := dk_42 (dk_at dksX8_line_3 3 rfl rfl)
theorem dX8_line_74 : decode cX8_line 74 = .ok (.bipush 48, 2) := dk_16 48 (dk_at dksX8_line_3 4 rfl rfl)
theorem dX8_line_76 : decode cX8_line 76 = .ok (.aload_n 0, 1) := dk_42 (dk_at dksX8_line_3 6 rfl rfl)
theorem dX8_line_77 : decode cX8_line 77 = .ok (.iload_n 1, 1) := dk_27 (dk_at dksX8_line_3 7 rfl rfl)
theorem dX8_line_78 : decode cX8_line 78 = .ok (.invokevirtual 113, 3) := dk_182 0 113 (dk_at dksX8_line_3 8 rfl rfl)
theorem dX8_line_81 : decode cX8_line 81 = .ok (.iadd, 1) := dk_96 (dk_at dksX8_line_3 11 rfl rfl)
theorem dX8_line_82 : decode cX8_line 82 = .ok (.i2c, 1) := dk_146 (dk_at dksX8_line_3 12 rfl rfl)
theorem dX8_line_83 : decode cX8_line 83 = .ok (.invokevirtual 277, 3) := dk_182 1 21 (dk_at dksX8_line_3 13 rfl rfl)
theorem dX8_line_86 : decode cX8_line 86 = .ok (.iinc 1 1, 3) := dk_132 1 1 (dk_at dksX8_line_3 16 rfl rfl)
theorem dX8_line_89 : decode cX8_line 89 = .ok (.goto (-77), 3) := dk_167 255 179 (dk_at dksX8_line_3 19 rfl rfl)
theorem dX8_line_92 : decode cX8_line 92 = .ok (.aload_n 0, 1) := dk_42 (dk_at dksX8_line_3 22 rfl rfl)
theorem dX8_line_93 : decode cX8_line 93 = .ok (.getfield 266, 3) := dk_180 1 10 (dk_at dksX8_line_4 0 rfl rfl)
theorem dX8_line_96 : decode cX8_line 96 = .ok (.ireturn, 1) := dk_172 (dk_at dksX8_line_4 3 rfl rfl)
abbrev cX8_says : ByteArray := prog_15_method_69_code
def yX8_says : MethodName := ⟨RX8, "says", "(C)V"⟩
def dkwX8_says_0 : List UInt8 := [42, 180, 0, 50, 42, 180, 1, 10, 27, 85, 42, 89, 180, 1, 10, 4, 96, 181, 1, 10, 177]
abbrev dktX8_says_0 : List UInt8 := dkwX8_says_0 ++ []
theorem dksX8_says_0 : cX8_says.data.toList.drop 0 = dktX8_says_0 := by decide +kernel
theorem dX8_says_0 : decode cX8_says 0 = .ok (.aload_n 0, 1) := dk_42 (dk_at dksX8_says_0 0 rfl rfl)
theorem dX8_says_1 : decode cX8_says 1 = .ok (.getfield 50, 3) := dk_180 0 50 (dk_at dksX8_says_0 1 rfl rfl)
theorem dX8_says_4 : decode cX8_says 4 = .ok (.aload_n 0, 1) := dk_42 (dk_at dksX8_says_0 4 rfl rfl)
theorem dX8_says_5 : decode cX8_says 5 = .ok (.getfield 266, 3) := dk_180 1 10 (dk_at dksX8_says_0 5 rfl rfl)
theorem dX8_says_8 : decode cX8_says 8 = .ok (.iload_n 1, 1) := dk_27 (dk_at dksX8_says_0 8 rfl rfl)
theorem dX8_says_9 : decode cX8_says 9 = .ok (.castore, 1) := dk_85 (dk_at dksX8_says_0 9 rfl rfl)
theorem dX8_says_10 : decode cX8_says 10 = .ok (.aload_n 0, 1) := dk_42 (dk_at dksX8_says_0 10 rfl rfl)
theorem dX8_says_11 : decode cX8_says 11 = .ok (.dup, 1) := dk_89 (dk_at dksX8_says_0 11 rfl rfl)
theorem dX8_says_12 : decode cX8_says 12 = .ok (.getfield 266, 3) := dk_180 1 10 (dk_at dksX8_says_0 12 rfl rfl)
theorem dX8_says_15 : decode cX8_says 15 = .ok (.iconst 1, 1) := dk_4 (dk_at dksX8_says_0 15 rfl rfl)
theorem dX8_says_16 : decode cX8_says 16 = .ok (.iadd, 1) := dk_96 (dk_at dksX8_says_0 16 rfl rfl)
theorem dX8_says_17 : decode cX8_says 17 = .ok (.putfield 266, 3) := dk_181 1 10 (dk_at dksX8_says_0 17 rfl rfl)
theorem dX8_says_20 : decode cX8_says 20 = .ok (.return_, 1) := dk_177 (dk_at dksX8_says_0 20 rfl rfl)
abbrev cX8_character : ByteArray := prog_15_method_71_code
def yX8_character : MethodName := ⟨RX8, "character", "(I)C"⟩
def dkwX8_character_1 : List UInt8 := [180, 0, 64, 158, 0, 8, 16, 32, 167, 0, 9, 42, 180, 0, 50, 27, 52, 172]
abbrev dktX8_character_1 : List UInt8 := dkwX8_character_1 ++ []
def dkwX8_character_0 : List UInt8 := [42, 27, 3, 42, 180, 1, 10, 4, 100, 184, 0, 82, 153, 0, 7, 3, 167, 0, 4, 4, 181, 0, 64, 42]
abbrev dktX8_character_0 : List UInt8 := dkwX8_character_0 ++ dktX8_character_1
theorem dksX8_character_0 : cX8_character.data.toList.drop 0 = dktX8_character_0 := by decide +kernel
theorem dksX8_character_1 : cX8_character.data.toList.drop 24 = dktX8_character_1 := dk_seg dksX8_character_0 24 rfl rfl
theorem dX8_character_0 : decode cX8_character 0 = .ok (.aload_n 0, 1) := dk_42 (dk_at dksX8_character_0 0 rfl rfl)
theorem dX8_character_1 : decode cX8_character 1 = .ok (.iload_n 1, 1) := dk_27 (dk_at dksX8_character_0 1 rfl rfl)
theorem dX8_character_2 : decode cX8_character 2 = .ok (.iconst 0, 1) := dk_3 (dk_at dksX8_character_0 2 rfl rfl)
theorem dX8_character_3 : decode cX8_character 3 = .ok (.aload_n 0, 1) := dk_42 (dk_at dksX8_character_0 3 rfl rfl)
theorem dX8_character_4 : decode cX8_character 4 = .ok (.getfield 266, 3) := dk_180 1 10 (dk_at dksX8_character_0 4 rfl rfl)
theorem dX8_character_7 : decode cX8_character 7 = .ok (.iconst 1, 1) := dk_4 (dk_at dksX8_character_0 7 rfl rfl)
theorem dX8_character_8 : decode cX8_character 8 = .ok (.isub, 1) := dk_100 (dk_at dksX8_character_0 8 rfl rfl)
theorem dX8_character_9 : decode cX8_character 9 = .ok (.invokestatic 82, 3) := dk_184 0 82 (dk_at dksX8_character_0 9 rfl rfl)
theorem dX8_character_12 : decode cX8_character 12 = .ok (.ifCond .eq 7, 3) := dk_153 0 7 (dk_at dksX8_character_0 12 rfl rfl)
theorem dX8_character_15 : decode cX8_character 15 = .ok (.iconst 0, 1) := dk_3 (dk_at dksX8_character_0 15 rfl rfl)
theorem dX8_character_16 : decode cX8_character 16 = .ok (.goto 4, 3) := dk_167 0 4 (dk_at dksX8_character_0 16 rfl rfl)
theorem dX8_character_19 : decode cX8_character 19 = .ok (.iconst 1, 1) := dk_4 (dk_at dksX8_character_0 19 rfl rfl)
theorem dX8_character_20 : decode cX8_character 20 = .ok (.putfield 64, 3) := dk_181 0 64 (dk_at dksX8_character_0 20 rfl rfl)
theorem dX8_character_23 : decode cX8_character 23 = .ok (.aload_n 0, 1) := dk_42 (dk_at dksX8_character_0 23 rfl rfl)
theorem dX8_character_24 : decode cX8_character 24 = .ok (.getfield 64, 3) := dk_180 0 64 (dk_at dksX8_character_1 0 rfl rfl)
theorem dX8_character_27 : decode cX8_character 27 = .ok (.ifCond .le 8, 3) := dk_158 0 8 (dk_at dksX8_character_1 3 rfl rfl)
theorem dX8_character_30 : decode cX8_character 30 = .ok (.bipush 32, 2) := dk_16 32 (dk_at dksX8_character_1 6 rfl rfl)
theorem dX8_character_32 : decode cX8_character 32 = .ok (.goto 9, 3) := dk_167 0 9 (dk_at dksX8_character_1 8 rfl rfl)
theorem dX8_character_35 : decode cX8_character 35 = .ok (.aload_n 0, 1) := dk_42 (dk_at dksX8_character_1 11 rfl rfl)
theorem dX8_character_36 : decode cX8_character 36 = .ok (.getfield 50, 3) := dk_180 0 50 (dk_at dksX8_character_1 12 rfl rfl)
theorem dX8_character_39 : decode cX8_character 39 = .ok (.iload_n 1, 1) := dk_27 (dk_at dksX8_character_1 15 rfl rfl)
theorem dX8_character_40 : decode cX8_character 40 = .ok (.caload, 1) := dk_52 (dk_at dksX8_character_1 16 rfl rfl)
theorem dX8_character_41 : decode cX8_character 41 = .ok (.ireturn, 1) := dk_172 (dk_at dksX8_character_1 17 rfl rfl)
abbrev cX8_append : ByteArray := prog_15_method_72_code
def yX8_append : MethodName := ⟨RX8, "append", "(C)I"⟩
def dkwX8_append_2 : List UInt8 := [181, 1, 25, 42, 180, 1, 25, 172]
abbrev dktX8_append_2 : List UInt8 := dkwX8_append_2 ++ []
def dkwX8_append_1 : List UInt8 := [158, 0, 5, 3, 172, 42, 180, 0, 54, 42, 180, 1, 25, 27, 85, 42, 89, 180, 1, 25, 4, 96]
abbrev dktX8_append_1 : List UInt8 := dkwX8_append_1 ++ dktX8_append_2
def dkwX8_append_0 : List UInt8 := [42, 42, 180, 1, 25, 16, 60, 160, 0, 7, 4, 167, 0, 4, 3, 181, 0, 64, 42, 180, 0, 64]
abbrev dktX8_append_0 : List UInt8 := dkwX8_append_0 ++ dktX8_append_1
theorem dksX8_append_0 : cX8_append.data.toList.drop 0 = dktX8_append_0 := by decide +kernel
theorem dksX8_append_1 : cX8_append.data.toList.drop 22 = dktX8_append_1 := dk_seg dksX8_append_0 22 rfl rfl
theorem dksX8_append_2 : cX8_append.data.toList.drop 44 = dktX8_append_2 := dk_seg dksX8_append_1 22 rfl rfl
theorem dX8_append_0 : decode cX8_append 0 = .ok (.aload_n 0, 1) := dk_42 (dk_at dksX8_append_0 0 rfl rfl)
theorem dX8_append_1 : decode cX8_append 1 = .ok (.aload_n 0, 1) := dk_42 (dk_at dksX8_append_0 1 rfl rfl)
theorem dX8_append_2 : decode cX8_append 2 = .ok (.getfield 281, 3) := dk_180 1 25 (dk_at dksX8_append_0 2 rfl rfl)
theorem dX8_append_5 : decode cX8_append 5 = .ok (.bipush 60, 2) := dk_16 60 (dk_at dksX8_append_0 5 rfl rfl)
theorem dX8_append_7 : decode cX8_append 7 = .ok (.if_icmp .ne 7, 3) := dk_160 0 7 (dk_at dksX8_append_0 7 rfl rfl)
theorem dX8_append_10 : decode cX8_append 10 = .ok (.iconst 1, 1) := dk_4 (dk_at dksX8_append_0 10 rfl rfl)
theorem dX8_append_11 : decode cX8_append 11 = .ok (.goto 4, 3) := dk_167 0 4 (dk_at dksX8_append_0 11 rfl rfl)
theorem dX8_append_14 : decode cX8_append 14 = .ok (.iconst 0, 1) := dk_3 (dk_at dksX8_append_0 14 rfl rfl)
theorem dX8_append_15 : decode cX8_append 15 = .ok (.putfield 64, 3) := dk_181 0 64 (dk_at dksX8_append_0 15 rfl rfl)
theorem dX8_append_18 : decode cX8_append 18 = .ok (.aload_n 0, 1) := dk_42 (dk_at dksX8_append_0 18 rfl rfl)
theorem dX8_append_19 : decode cX8_append 19 = .ok (.getfield 64, 3) := dk_180 0 64 (dk_at dksX8_append_0 19 rfl rfl)
theorem dX8_append_22 : decode cX8_append 22 = .ok (.ifCond .le 5, 3) := dk_158 0 5 (dk_at dksX8_append_1 0 rfl rfl)
theorem dX8_append_25 : decode cX8_append 25 = .ok (.iconst 0, 1) := dk_3 (dk_at dksX8_append_1 3 rfl rfl)
theorem dX8_append_26 : decode cX8_append 26 = .ok (.ireturn, 1) := dk_172 (dk_at dksX8_append_1 4 rfl rfl)
theorem dX8_append_27 : decode cX8_append 27 = .ok (.aload_n 0, 1) := dk_42 (dk_at dksX8_append_1 5 rfl rfl)
theorem dX8_append_28 : decode cX8_append 28 = .ok (.getfield 54, 3) := dk_180 0 54 (dk_at dksX8_append_1 6 rfl rfl)
theorem dX8_append_31 : decode cX8_append 31 = .ok (.aload_n 0, 1) := dk_42 (dk_at dksX8_append_1 9 rfl rfl)
theorem dX8_append_32 : decode cX8_append 32 = .ok (.getfield 281, 3) := dk_180 1 25 (dk_at dksX8_append_1 10 rfl rfl)
theorem dX8_append_35 : decode cX8_append 35 = .ok (.iload_n 1, 1) := dk_27 (dk_at dksX8_append_1 13 rfl rfl)
theorem dX8_append_36 : decode cX8_append 36 = .ok (.castore, 1) := dk_85 (dk_at dksX8_append_1 14 rfl rfl)
theorem dX8_append_37 : decode cX8_append 37 = .ok (.aload_n 0, 1) := dk_42 (dk_at dksX8_append_1 15 rfl rfl)
theorem dX8_append_38 : decode cX8_append 38 = .ok (.dup, 1) := dk_89 (dk_at dksX8_append_1 16 rfl rfl)
theorem dX8_append_39 : decode cX8_append 39 = .ok (.getfield 281, 3) := dk_180 1 25 (dk_at dksX8_append_1 17 rfl rfl)
theorem dX8_append_42 : decode cX8_append 42 = .ok (.iconst 1, 1) := dk_4 (dk_at dksX8_append_1 20 rfl rfl)
theorem dX8_append_43 : decode cX8_append 43 = .ok (.iadd, 1) := dk_96 (dk_at dksX8_append_1 21 rfl rfl)
theorem dX8_append_44 : decode cX8_append 44 = .ok (.putfield 281, 3) := dk_181 1 25 (dk_at dksX8_append_2 0 rfl rfl)
theorem dX8_append_47 : decode cX8_append 47 = .ok (.aload_n 0, 1) := dk_42 (dk_at dksX8_append_2 3 rfl rfl)
theorem dX8_append_48 : decode cX8_append 48 = .ok (.getfield 281, 3) := dk_180 1 25 (dk_at dksX8_append_2 4 rfl rfl)
theorem dX8_append_51 : decode cX8_append 51 = .ok (.ireturn, 1) := dk_172 (dk_at dksX8_append_2 7 rfl rfl)
abbrev cX8_read : ByteArray := prog_15_method_75_code
def yX8_read : MethodName := ⟨RX8, "read", "()I"⟩
def dkwX8_read_6 : List UInt8 := [182, 0, 93, 172]
abbrev dktX8_read_6 : List UInt8 := dkwX8_read_6 ++ []
def dkwX8_read_5 : List UInt8 := [28, 104, 5, 96, 46, 182, 0, 149, 132, 2, 1, 167, 255, 173, 42, 180, 0, 9, 4, 27, 79, 42, 27]
abbrev dktX8_read_5 : List UInt8 := dkwX8_read_5 ++ dktX8_read_6
def dkwX8_read_4 : List UInt8 := [28, 42, 180, 0, 61, 6, 28, 104, 46, 42, 180, 0, 61, 6, 28, 104, 4, 96, 46, 42, 180, 0, 61, 6]
abbrev dktX8_read_4 : List UInt8 := dkwX8_read_4 ++ dktX8_read_5
def dkwX8_read_3 : List UInt8 := [46, 42, 180, 0, 61, 6, 28, 104, 5, 96, 46, 182, 0, 145, 154, 0, 9, 42, 3, 182, 0, 93, 172, 42]
abbrev dktX8_read_3 : List UInt8 := dkwX8_read_3 ++ dktX8_read_4
def dkwX8_read_2 : List UInt8 := [28, 27, 162, 0, 84, 42, 5, 42, 180, 0, 61, 6, 28, 104, 46, 42, 180, 0, 61, 6, 28, 104, 4, 96]
abbrev dktX8_read_2 : List UInt8 := dkwX8_read_2 ++ dktX8_read_3
def dkwX8_read_1 : List UInt8 := [182, 0, 93, 172, 27, 16, 24, 164, 0, 15, 42, 42, 5, 5, 27, 182, 0, 96, 182, 0, 93, 172, 3, 61]
abbrev dktX8_read_1 : List UInt8 := dkwX8_read_1 ++ dktX8_read_2
def dkwX8_read_0 : List UInt8 := [42, 182, 0, 86, 42, 182, 1, 32, 60, 42, 180, 0, 57, 155, 0, 13, 42, 42, 4, 182, 0, 89]
abbrev dktX8_read_0 : List UInt8 := dkwX8_read_0 ++ dktX8_read_1
theorem dksX8_read_0 : cX8_read.data.toList.drop 0 = dktX8_read_0 := by decide +kernel
theorem dksX8_read_1 : cX8_read.data.toList.drop 22 = dktX8_read_1 := dk_seg dksX8_read_0 22 rfl rfl
theorem dksX8_read_2 : cX8_read.data.toList.drop 46 = dktX8_read_2 := dk_seg dksX8_read_1 24 rfl rfl
theorem dksX8_read_3 : cX8_read.data.toList.drop 70 = dktX8_read_3 := dk_seg dksX8_read_2 24 rfl rfl
theorem dksX8_read_4 : cX8_read.data.toList.drop 94 = dktX8_read_4 := dk_seg dksX8_read_3 24 rfl rfl
theorem dksX8_read_5 : cX8_read.data.toList.drop 118 = dktX8_read_5 := dk_seg dksX8_read_4 24 rfl rfl
theorem dksX8_read_6 : cX8_read.data.toList.drop 141 = dktX8_read_6 := dk_seg dksX8_read_5 23 rfl rfl
theorem dX8_read_0 : decode cX8_read 0 = .ok (.aload_n 0, 1) := dk_42 (dk_at dksX8_read_0 0 rfl rfl)
theorem dX8_read_1 : decode cX8_read 1 = .ok (.invokevirtual 86, 3) := dk_182 0 86 (dk_at dksX8_read_0 1 rfl rfl)
theorem dX8_read_4 : decode cX8_read 4 = .ok (.aload_n 0, 1) := dk_42 (dk_at dksX8_read_0 4 rfl rfl)
theorem dX8_read_5 : decode cX8_read 5 = .ok (.invokevirtual 288, 3) := dk_182 1 32 (dk_at dksX8_read_0 5 rfl rfl)
theorem dX8_read_8 : decode cX8_read 8 = .ok (.istore_n 1, 1) := dk_60 (dk_at dksX8_read_0 8 rfl rfl)
theorem dX8_read_9 : decode cX8_read 9 = .ok (.aload_n 0, 1) := dk_42 (dk_at dksX8_read_0 9 rfl rfl)
theorem dX8_read_10 : decode cX8_read 10 = .ok (.getfield 57, 3) := dk_180 0 57 (dk_at dksX8_read_0 10 rfl rfl)
theorem dX8_read_13 : decode cX8_read 13 = .ok (.ifCond .lt 13, 3) := dk_155 0 13 (dk_at dksX8_read_0 13 rfl rfl)
theorem dX8_read_16 : decode cX8_read 16 = .ok (.aload_n 0, 1) := dk_42 (dk_at dksX8_read_0 16 rfl rfl)
theorem dX8_read_17 : decode cX8_read 17 = .ok (.aload_n 0, 1) := dk_42 (dk_at dksX8_read_0 17 rfl rfl)
theorem dX8_read_18 : decode cX8_read 18 = .ok (.iconst 1, 1) := dk_4 (dk_at dksX8_read_0 18 rfl rfl)
theorem dX8_read_19 : decode cX8_read 19 = .ok (.invokevirtual 89, 3) := dk_182 0 89 (dk_at dksX8_read_0 19 rfl rfl)
theorem dX8_read_22 : decode cX8_read 22 = .ok (.invokevirtual 93, 3) := dk_182 0 93 (dk_at dksX8_read_1 0 rfl rfl)
theorem dX8_read_25 : decode cX8_read 25 = .ok (.ireturn, 1) := dk_172 (dk_at dksX8_read_1 3 rfl rfl)
theorem dX8_read_26 : decode cX8_read 26 = .ok (.iload_n 1, 1) := dk_27 (dk_at dksX8_read_1 4 rfl rfl)
theorem dX8_read_27 : decode cX8_read 27 = .ok (.bipush 24, 2) := dk_16 24 (dk_at dksX8_read_1 5 rfl rfl)
theorem dX8_read_29 : decode cX8_read 29 = .ok (.if_icmp .le 15, 3) := dk_164 0 15 (dk_at dksX8_read_1 7 rfl rfl)
theorem dX8_read_32 : decode cX8_read 32 = .ok (.aload_n 0, 1) := dk_42 (dk_at dksX8_read_1 10 rfl rfl)
theorem dX8_read_33 : decode cX8_read 33 = .ok (.aload_n 0, 1) := dk_42 (dk_at dksX8_read_1 11 rfl rfl)
theorem dX8_read_34 : decode cX8_read 34 = .ok (.iconst 2, 1) := dk_5 (dk_at dksX8_read_1 12 rfl rfl)
theorem dX8_read_35 : decode cX8_read 35 = .ok (.iconst 2, 1) := dk_5 (dk_at dksX8_read_1 13 rfl rfl)
theorem dX8_read_36 : decode cX8_read 36 = .ok (.iload_n 1, 1) := dk_27 (dk_at dksX8_read_1 14 rfl rfl)
theorem dX8_read_37 : decode cX8_read 37 = .ok (.invokevirtual 96, 3) := dk_182 0 96 (dk_at dksX8_read_1 15 rfl rfl)
theorem dX8_read_40 : decode cX8_read 40 = .ok (.invokevirtual 93, 3) := dk_182 0 93 (dk_at dksX8_read_1 18 rfl rfl)
theorem dX8_read_43 : decode cX8_read 43 = .ok (.ireturn, 1) := dk_172 (dk_at dksX8_read_1 21 rfl rfl)
theorem dX8_read_44 : decode cX8_read 44 = .ok (.iconst 0, 1) := dk_3 (dk_at dksX8_read_1 22 rfl rfl)
theorem dX8_read_45 : decode cX8_read 45 = .ok (.istore_n 2, 1) := dk_61 (dk_at dksX8_read_1 23 rfl rfl)
theorem dX8_read_46 : decode cX8_read 46 = .ok (.iload_n 2, 1) := dk_28 (dk_at dksX8_read_2 0 rfl rfl)
theorem dX8_read_47 : decode cX8_read 47 = .ok (.iload_n 1, 1) := dk_27 (dk_at dksX8_read_2 1 rfl rfl)
theorem dX8_read_48 : decode cX8_read 48 = .ok (.if_icmp .ge 84, 3) := dk_162 0 84 (dk_at dksX8_read_2 2 rfl rfl)
theorem dX8_read_51 : decode cX8_read 51 = .ok (.aload_n 0, 1) := dk_42 (dk_at dksX8_read_2 5 rfl rfl)
theorem dX8_read_52 : decode cX8_read 52 = .ok (.iconst 2, 1) := dk_5 (dk_at dksX8_read_2 6 rfl rfl)
theorem dX8_read_53 : decode cX8_read 53 = .ok (.aload_n 0, 1) := dk_42 (dk_at dksX8_read_2 7 rfl rfl)
theorem dX8_read_54 : decode cX8_read 54 = .ok (.getfield 61, 3) := dk_180 0 61 (dk_at dksX8_read_2 8 rfl rfl)
theorem dX8_read_57 : decode cX8_read 57 = .ok (.iconst 3, 1) := dk_6 (dk_at dksX8_read_2 11 rfl rfl)
theorem dX8_read_58 : decode cX8_read 58 = .ok (.iload_n 2, 1) := dk_28 (dk_at dksX8_read_2 12 rfl rfl)
theorem dX8_read_59 : decode cX8_read 59 = .ok (.imul, 1) := dk_104 (dk_at dksX8_read_2 13 rfl rfl)
theorem dX8_read_60 : decode cX8_read 60 = .ok (.iaload, 1) := dk_46 (dk_at dksX8_read_2 14 rfl rfl)
theorem dX8_read_61 : decode cX8_read 61 = .ok (.aload_n 0, 1) := dk_42 (dk_at dksX8_read_2 15 rfl rfl)
theorem dX8_read_62 : decode cX8_read 62 = .ok (.getfield 61, 3) := dk_180 0 61 (dk_at dksX8_read_2 16 rfl rfl)
theorem dX8_read_65 : decode cX8_read 65 = .ok (.iconst 3, 1) := dk_6 (dk_at dksX8_read_2 19 rfl rfl)
theorem dX8_read_66 : decode cX8_read 66 = .ok (.iload_n 2, 1) := dk_28 (dk_at dksX8_read_2 20 rfl rfl)
theorem dX8_read_67 : decode cX8_read 67 = .ok (.imul, 1) := dk_104 (dk_at dksX8_read_2 21 rfl rfl)
theorem dX8_read_68 : decode cX8_read 68 = .ok (.iconst 1, 1) := dk_4 (dk_at dksX8_read_2 22 rfl rfl)
theorem dX8_read_69 : decode cX8_read 69 = .ok (.iadd, 1) := dk_96 (dk_at dksX8_read_2 23 rfl rfl)
theorem dX8_read_70 : decode cX8_read 70 = .ok (.iaload, 1) := dk_46 (dk_at dksX8_read_3 0 rfl rfl)
theorem dX8_read_71 : decode cX8_read 71 = .ok (.aload_n 0, 1) := dk_42 (dk_at dksX8_read_3 1 rfl rfl)
theorem dX8_read_72 : decode cX8_read 72 = .ok (.getfield 61, 3) := dk_180 0 61 (dk_at dksX8_read_3 2 rfl rfl)
theorem dX8_read_75 : decode cX8_read 75 = .ok (.iconst 3, 1) := dk_6 (dk_at dksX8_read_3 5 rfl rfl)
theorem dX8_read_76 : decode cX8_read 76 = .ok (.iload_n 2, 1) := dk_28 (dk_at dksX8_read_3 6 rfl rfl)
theorem dX8_read_77 : decode cX8_read 77 = .ok (.imul, 1) := dk_104 (dk_at dksX8_read_3 7 rfl rfl)
theorem dX8_read_78 : decode cX8_read 78 = .ok (.iconst 2, 1) := dk_5 (dk_at dksX8_read_3 8 rfl rfl)
theorem dX8_read_79 : decode cX8_read 79 = .ok (.iadd, 1) := dk_96 (dk_at dksX8_read_3 9 rfl rfl)
theorem dX8_read_80 : decode cX8_read 80 = .ok (.iaload, 1) := dk_46 (dk_at dksX8_read_3 10 rfl rfl)
theorem dX8_read_81 : decode cX8_read 81 = .ok (.invokevirtual 145, 3) := dk_182 0 145 (dk_at dksX8_read_3 11 rfl rfl)
theorem dX8_read_84 : decode cX8_read 84 = .ok (.ifCond .ne 9, 3) := dk_154 0 9 (dk_at dksX8_read_3 14 rfl rfl)
theorem dX8_read_87 : decode cX8_read 87 = .ok (.aload_n 0, 1) := dk_42 (dk_at dksX8_read_3 17 rfl rfl)
theorem dX8_read_88 : decode cX8_read 88 = .ok (.iconst 0, 1) := dk_3 (dk_at dksX8_read_3 18 rfl rfl)
theorem dX8_read_89 : decode cX8_read 89 = .ok (.invokevirtual 93, 3) := dk_182 0 93 (dk_at dksX8_read_3 19 rfl rfl)
theorem dX8_read_92 : decode cX8_read 92 = .ok (.ireturn, 1) := dk_172 (dk_at dksX8_read_3 22 rfl rfl)
theorem dX8_read_93 : decode cX8_read 93 = .ok (.aload_n 0, 1) := dk_42 (dk_at dksX8_read_3 23 rfl rfl)
theorem dX8_read_94 : decode cX8_read 94 = .ok (.iload_n 2, 1) := dk_28 (dk_at dksX8_read_4 0 rfl rfl)
theorem dX8_read_95 : decode cX8_read 95 = .ok (.aload_n 0, 1) := dk_42 (dk_at dksX8_read_4 1 rfl rfl)
theorem dX8_read_96 : decode cX8_read 96 = .ok (.getfield 61, 3) := dk_180 0 61 (dk_at dksX8_read_4 2 rfl rfl)
theorem dX8_read_99 : decode cX8_read 99 = .ok (.iconst 3, 1) := dk_6 (dk_at dksX8_read_4 5 rfl rfl)
theorem dX8_read_100 : decode cX8_read 100 = .ok (.iload_n 2, 1) := dk_28 (dk_at dksX8_read_4 6 rfl rfl)
theorem dX8_read_101 : decode cX8_read 101 = .ok (.imul, 1) := dk_104 (dk_at dksX8_read_4 7 rfl rfl)
theorem dX8_read_102 : decode cX8_read 102 = .ok (.iaload, 1) := dk_46 (dk_at dksX8_read_4 8 rfl rfl)
theorem dX8_read_103 : decode cX8_read 103 = .ok (.aload_n 0, 1) := dk_42 (dk_at dksX8_read_4 9 rfl rfl)
theorem dX8_read_104 : decode cX8_read 104 = .ok (.getfield 61, 3) := dk_180 0 61 (dk_at dksX8_read_4 10 rfl rfl)
theorem dX8_read_107 : decode cX8_read 107 = .ok (.iconst 3, 1) := dk_6 (dk_at dksX8_read_4 13 rfl rfl)
theorem dX8_read_108 : decode cX8_read 108 = .ok (.iload_n 2, 1) := dk_28 (dk_at dksX8_read_4 14 rfl rfl)
theorem dX8_read_109 : decode cX8_read 109 = .ok (.imul, 1) := dk_104 (dk_at dksX8_read_4 15 rfl rfl)
theorem dX8_read_110 : decode cX8_read 110 = .ok (.iconst 1, 1) := dk_4 (dk_at dksX8_read_4 16 rfl rfl)
theorem dX8_read_111 : decode cX8_read 111 = .ok (.iadd, 1) := dk_96 (dk_at dksX8_read_4 17 rfl rfl)
theorem dX8_read_112 : decode cX8_read 112 = .ok (.iaload, 1) := dk_46 (dk_at dksX8_read_4 18 rfl rfl)
theorem dX8_read_113 : decode cX8_read 113 = .ok (.aload_n 0, 1) := dk_42 (dk_at dksX8_read_4 19 rfl rfl)
theorem dX8_read_114 : decode cX8_read 114 = .ok (.getfield 61, 3) := dk_180 0 61 (dk_at dksX8_read_4 20 rfl rfl)
theorem dX8_read_117 : decode cX8_read 117 = .ok (.iconst 3, 1) := dk_6 (dk_at dksX8_read_4 23 rfl rfl)
theorem dX8_read_118 : decode cX8_read 118 = .ok (.iload_n 2, 1) := dk_28 (dk_at dksX8_read_5 0 rfl rfl)
theorem dX8_read_119 : decode cX8_read 119 = .ok (.imul, 1) := dk_104 (dk_at dksX8_read_5 1 rfl rfl)
theorem dX8_read_120 : decode cX8_read 120 = .ok (.iconst 2, 1) := dk_5 (dk_at dksX8_read_5 2 rfl rfl)
theorem dX8_read_121 : decode cX8_read 121 = .ok (.iadd, 1) := dk_96 (dk_at dksX8_read_5 3 rfl rfl)
theorem dX8_read_122 : decode cX8_read 122 = .ok (.iaload, 1) := dk_46 (dk_at dksX8_read_5 4 rfl rfl)
theorem dX8_read_123 : decode cX8_read 123 = .ok (.invokevirtual 149, 3) := dk_182 0 149 (dk_at dksX8_read_5 5 rfl rfl)
theorem dX8_read_126 : decode cX8_read 126 = .ok (.iinc 2 1, 3) := dk_132 2 1 (dk_at dksX8_read_5 8 rfl rfl)
theorem dX8_read_129 : decode cX8_read 129 = .ok (.goto (-83), 3) := dk_167 255 173 (dk_at dksX8_read_5 11 rfl rfl)
theorem dX8_read_132 : decode cX8_read 132 = .ok (.aload_n 0, 1) := dk_42 (dk_at dksX8_read_5 14 rfl rfl)
theorem dX8_read_133 : decode cX8_read 133 = .ok (.getfield 9, 3) := dk_180 0 9 (dk_at dksX8_read_5 15 rfl rfl)
theorem dX8_read_136 : decode cX8_read 136 = .ok (.iconst 1, 1) := dk_4 (dk_at dksX8_read_5 18 rfl rfl)
theorem dX8_read_137 : decode cX8_read 137 = .ok (.iload_n 1, 1) := dk_27 (dk_at dksX8_read_5 19 rfl rfl)
theorem dX8_read_138 : decode cX8_read 138 = .ok (.iastore, 1) := dk_79 (dk_at dksX8_read_5 20 rfl rfl)
theorem dX8_read_139 : decode cX8_read 139 = .ok (.aload_n 0, 1) := dk_42 (dk_at dksX8_read_5 21 rfl rfl)
theorem dX8_read_140 : decode cX8_read 140 = .ok (.iload_n 1, 1) := dk_27 (dk_at dksX8_read_5 22 rfl rfl)
theorem dX8_read_141 : decode cX8_read 141 = .ok (.invokevirtual 93, 3) := dk_182 0 93 (dk_at dksX8_read_6 0 rfl rfl)
theorem dX8_read_144 : decode cX8_read 144 = .ok (.ireturn, 1) := dk_172 (dk_at dksX8_read_6 3 rfl rfl)
abbrev cX8_reads : ByteArray := prog_15_method_74_code
def yX8_reads : MethodName := ⟨RX8, "reads", "()I"⟩
def dkwX8_reads_10 : List UInt8 := [167, 255, 44, 42, 3, 181, 1, 25, 27, 172]
abbrev dktX8_reads_10 : List UInt8 := dkwX8_reads_10 ++ []
def dkwX8_reads_9 : List UInt8 := [16, 48, 100, 167, 0, 4, 3, 79, 132, 5, 1, 167, 255, 150, 28, 21, 4, 4, 96, 96, 61, 132, 1, 1]
abbrev dktX8_reads_9 : List UInt8 := dkwX8_reads_9 ++ dktX8_reads_10
def dkwX8_reads_8 : List UInt8 := [180, 0, 61, 6, 27, 104, 21, 5, 96, 21, 6, 153, 0, 18, 42, 180, 0, 54, 28, 21, 5, 96, 52]
abbrev dktX8_reads_8 : List UInt8 := dkwX8_reads_8 ++ dktX8_reads_9
def dkwX8_reads_7 : List UInt8 := [54, 6, 42, 21, 6, 153, 0, 10, 42, 180, 0, 57, 167, 0, 7, 28, 21, 5, 96, 181, 0, 57, 42]
abbrev dktX8_reads_7 : List UInt8 := dkwX8_reads_7 ++ dktX8_reads_8
def dkwX8_reads_6 : List UInt8 := [180, 0, 54, 28, 21, 5, 96, 52, 16, 48, 16, 57, 184, 0, 82, 153, 0, 7, 4, 167, 0, 4, 3]
abbrev dktX8_reads_6 : List UInt8 := dkwX8_reads_6 ++ dktX8_reads_7
def dkwX8_reads_5 : List UInt8 := [21, 4, 163, 0, 105, 42, 180, 0, 57, 156, 0, 98, 28, 21, 5, 96, 42, 180, 1, 25, 162, 0, 26, 42]
abbrev dktX8_reads_5 : List UInt8 := dkwX8_reads_5 ++ dktX8_reads_6
def dkwX8_reads_4 : List UInt8 := [167, 0, 7, 42, 180, 0, 57, 181, 0, 57, 42, 180, 0, 61, 6, 27, 104, 29, 79, 4, 54, 5, 21, 5]
abbrev dktX8_reads_4 : List UInt8 := dkwX8_reads_4 ++ dktX8_reads_5
def dkwX8_reads_3 : List UInt8 := [154, 0, 10, 29, 184, 0, 139, 153, 0, 7, 4, 167, 0, 4, 3, 54, 4, 42, 29, 156, 0, 7, 28]
abbrev dktX8_reads_3 : List UInt8 := dkwX8_reads_3 ++ dktX8_reads_4
def dkwX8_reads_2 : List UInt8 := [156, 0, 7, 3, 167, 0, 33, 29, 184, 0, 142, 153, 0, 7, 5, 167, 0, 22, 29, 184, 0, 136]
abbrev dktX8_reads_2 : List UInt8 := dkwX8_reads_2 ++ dktX8_reads_3
def dkwX8_reads_1 : List UInt8 := [180, 1, 25, 162, 0, 210, 42, 180, 0, 57, 156, 0, 203, 42, 180, 0, 54, 28, 52, 184, 1, 28, 62, 29]
abbrev dktX8_reads_1 : List UInt8 := dkwX8_reads_1 ++ dktX8_reads_2
def dkwX8_reads_0 : List UInt8 := [3, 60, 3, 61, 42, 42, 180, 1, 25, 154, 0, 7, 3, 167, 0, 4, 2, 181, 0, 57, 28, 42]
abbrev dktX8_reads_0 : List UInt8 := dkwX8_reads_0 ++ dktX8_reads_1
theorem dksX8_reads_0 : cX8_reads.data.toList.drop 0 = dktX8_reads_0 := by decide +kernel
theorem dksX8_reads_1 : cX8_reads.data.toList.drop 22 = dktX8_reads_1 := dk_seg dksX8_reads_0 22 rfl rfl
theorem dksX8_reads_2 : cX8_reads.data.toList.drop 46 = dktX8_reads_2 := dk_seg dksX8_reads_1 24 rfl rfl
theorem dksX8_reads_3 : cX8_reads.data.toList.drop 68 = dktX8_reads_3 := dk_seg dksX8_reads_2 22 rfl rfl
theorem dksX8_reads_4 : cX8_reads.data.toList.drop 91 = dktX8_reads_4 := dk_seg dksX8_reads_3 23 rfl rfl
theorem dksX8_reads_5 : cX8_reads.data.toList.drop 115 = dktX8_reads_5 := dk_seg dksX8_reads_4 24 rfl rfl
theorem dksX8_reads_6 : cX8_reads.data.toList.drop 139 = dktX8_reads_6 := dk_seg dksX8_reads_5 24 rfl rfl
theorem dksX8_reads_7 : cX8_reads.data.toList.drop 162 = dktX8_reads_7 := dk_seg dksX8_reads_6 23 rfl rfl
theorem dksX8_reads_8 : cX8_reads.data.toList.drop 185 = dktX8_reads_8 := dk_seg dksX8_reads_7 23 rfl rfl
theorem dksX8_reads_9 : cX8_reads.data.toList.drop 208 = dktX8_reads_9 := dk_seg dksX8_reads_8 23 rfl rfl
theorem dksX8_reads_10 : cX8_reads.data.toList.drop 232 = dktX8_reads_10 := dk_seg dksX8_reads_9 24 rfl rfl
theorem dX8_reads_0 : decode cX8_reads 0 = .ok (.iconst 0, 1) := dk_3 (dk_at dksX8_reads_0 0 rfl rfl)
theorem dX8_reads_1 : decode cX8_reads 1 = .ok (.istore_n 1, 1) := dk_60 (dk_at dksX8_reads_0 1 rfl rfl)
theorem dX8_reads_2 : decode cX8_reads 2 = .ok (.iconst 0, 1) := dk_3 (dk_at dksX8_reads_0 2 rfl rfl)
theorem dX8_reads_3 : decode cX8_reads 3 = .ok (.istore_n 2, 1) := dk_61 (dk_at dksX8_reads_0 3 rfl rfl)
theorem dX8_reads_4 : decode cX8_reads 4 = .ok (.aload_n 0, 1) := dk_42 (dk_at dksX8_reads_0 4 rfl rfl)
theorem dX8_reads_5 : decode cX8_reads 5 = .ok (.aload_n 0, 1) := dk_42 (dk_at dksX8_reads_0 5 rfl rfl)
theorem dX8_reads_6 : decode cX8_reads 6 = .ok (.getfield 281, 3) := dk_180 1 25 (dk_at dksX8_reads_0 6 rfl rfl)
theorem dX8_reads_9 : decode cX8_reads 9 = .ok (.ifCond .ne 7, 3) := dk_154 0 7 (dk_at dksX8_reads_0 9 rfl rfl)
theorem dX8_reads_12 : decode cX8_reads 12 = .ok (.iconst 0, 1) := dk_3 (dk_at dksX8_reads_0 12 rfl rfl)
theorem dX8_reads_13 : decode cX8_reads 13 = .ok (.goto 4, 3) := dk_167 0 4 (dk_at dksX8_reads_0 13 rfl rfl)
theorem dX8_reads_16 : decode cX8_reads 16 = .ok (.iconst (-1), 1) := dk_2 (dk_at dksX8_reads_0 16 rfl rfl)
theorem dX8_reads_17 : decode cX8_reads 17 = .ok (.putfield 57, 3) := dk_181 0 57 (dk_at dksX8_reads_0 17 rfl rfl)
theorem dX8_reads_20 : decode cX8_reads 20 = .ok (.iload_n 2, 1) := dk_28 (dk_at dksX8_reads_0 20 rfl rfl)
theorem dX8_reads_21 : decode cX8_reads 21 = .ok (.aload_n 0, 1) := dk_42 (dk_at dksX8_reads_0 21 rfl rfl)
theorem dX8_reads_22 : decode cX8_reads 22 = .ok (.getfield 281, 3) := dk_180 1 25 (dk_at dksX8_reads_1 0 rfl rfl)
theorem dX8_reads_25 : decode cX8_reads 25 = .ok (.if_icmp .ge 210, 3) := dk_162 0 210 (dk_at dksX8_reads_1 3 rfl rfl)
theorem dX8_reads_28 : decode cX8_reads 28 = .ok (.aload_n 0, 1) := dk_42 (dk_at dksX8_reads_1 6 rfl rfl)
theorem dX8_reads_29 : decode cX8_reads 29 = .ok (.getfield 57, 3) := dk_180 0 57 (dk_at dksX8_reads_1 7 rfl rfl)
theorem dX8_reads_32 : decode cX8_reads 32 = .ok (.ifCond .ge 203, 3) := dk_156 0 203 (dk_at dksX8_reads_1 10 rfl rfl)
theorem dX8_reads_35 : decode cX8_reads 35 = .ok (.aload_n 0, 1) := dk_42 (dk_at dksX8_reads_1 13 rfl rfl)
theorem dX8_reads_36 : decode cX8_reads 36 = .ok (.getfield 54, 3) := dk_180 0 54 (dk_at dksX8_reads_1 14 rfl rfl)
theorem dX8_reads_39 : decode cX8_reads 39 = .ok (.iload_n 2, 1) := dk_28 (dk_at dksX8_reads_1 17 rfl rfl)
theorem dX8_reads_40 : decode cX8_reads 40 = .ok (.caload, 1) := dk_52 (dk_at dksX8_reads_1 18 rfl rfl)
theorem dX8_reads_41 : decode cX8_reads 41 = .ok (.invokestatic 284, 3) := dk_184 1 28 (dk_at dksX8_reads_1 19 rfl rfl)
theorem dX8_reads_44 : decode cX8_reads 44 = .ok (.istore_n 3, 1) := dk_62 (dk_at dksX8_reads_1 22 rfl rfl)
theorem dX8_reads_45 : decode cX8_reads 45 = .ok (.iload_n 3, 1) := dk_29 (dk_at dksX8_reads_1 23 rfl rfl)
theorem dX8_reads_46 : decode cX8_reads 46 = .ok (.ifCond .ge 7, 3) := dk_156 0 7 (dk_at dksX8_reads_2 0 rfl rfl)
theorem dX8_reads_49 : decode cX8_reads 49 = .ok (.iconst 0, 1) := dk_3 (dk_at dksX8_reads_2 3 rfl rfl)
theorem dX8_reads_50 : decode cX8_reads 50 = .ok (.goto 33, 3) := dk_167 0 33 (dk_at dksX8_reads_2 4 rfl rfl)
theorem dX8_reads_53 : decode cX8_reads 53 = .ok (.iload_n 3, 1) := dk_29 (dk_at dksX8_reads_2 7 rfl rfl)
theorem dX8_reads_54 : decode cX8_reads 54 = .ok (.invokestatic 142, 3) := dk_184 0 142 (dk_at dksX8_reads_2 8 rfl rfl)
theorem dX8_reads_57 : decode cX8_reads 57 = .ok (.ifCond .eq 7, 3) := dk_153 0 7 (dk_at dksX8_reads_2 11 rfl rfl)
theorem dX8_reads_60 : decode cX8_reads 60 = .ok (.iconst 2, 1) := dk_5 (dk_at dksX8_reads_2 14 rfl rfl)
theorem dX8_reads_61 : decode cX8_reads 61 = .ok (.goto 22, 3) := dk_167 0 22 (dk_at dksX8_reads_2 15 rfl rfl)
theorem dX8_reads_64 : decode cX8_reads 64 = .ok (.iload_n 3, 1) := dk_29 (dk_at dksX8_reads_2 18 rfl rfl)
theorem dX8_reads_65 : decode cX8_reads 65 = .ok (.invokestatic 136, 3) := dk_184 0 136 (dk_at dksX8_reads_2 19 rfl rfl)
theorem dX8_reads_68 : decode cX8_reads 68 = .ok (.ifCond .ne 10, 3) := dk_154 0 10 (dk_at dksX8_reads_3 0 rfl rfl)
theorem dX8_reads_71 : decode cX8_reads 71 = .ok (.iload_n 3, 1) := dk_29 (dk_at dksX8_reads_3 3 rfl rfl)
theorem dX8_reads_72 : decode cX8_reads 72 = .ok (.invokestatic 139, 3) := dk_184 0 139 (dk_at dksX8_reads_3 4 rfl rfl)
theorem dX8_reads_75 : decode cX8_reads 75 = .ok (.ifCond .eq 7, 3) := dk_153 0 7 (dk_at dksX8_reads_3 7 rfl rfl)
theorem dX8_reads_78 : decode cX8_reads 78 = .ok (.iconst 1, 1) := dk_4 (dk_at dksX8_reads_3 10 rfl rfl)
theorem dX8_reads_79 : decode cX8_reads 79 = .ok (.goto 4, 3) := dk_167 0 4 (dk_at dksX8_reads_3 11 rfl rfl)
theorem dX8_reads_82 : decode cX8_reads 82 = .ok (.iconst 0, 1) := dk_3 (dk_at dksX8_reads_3 14 rfl rfl)
theorem dX8_reads_83 : decode cX8_reads 83 = .ok (.istore 4, 2) := dk_54 4 (dk_at dksX8_reads_3 15 rfl rfl)
theorem dX8_reads_85 : decode cX8_reads 85 = .ok (.aload_n 0, 1) := dk_42 (dk_at dksX8_reads_3 17 rfl rfl)
theorem dX8_reads_86 : decode cX8_reads 86 = .ok (.iload_n 3, 1) := dk_29 (dk_at dksX8_reads_3 18 rfl rfl)
theorem dX8_reads_87 : decode cX8_reads 87 = .ok (.ifCond .ge 7, 3) := dk_156 0 7 (dk_at dksX8_reads_3 19 rfl rfl)
theorem dX8_reads_90 : decode cX8_reads 90 = .ok (.iload_n 2, 1) := dk_28 (dk_at dksX8_reads_3 22 rfl rfl)
theorem dX8_reads_91 : decode cX8_reads 91 = .ok (.goto 7, 3) := dk_167 0 7 (dk_at dksX8_reads_4 0 rfl rfl)
theorem dX8_reads_94 : decode cX8_reads 94 = .ok (.aload_n 0, 1) := dk_42 (dk_at dksX8_reads_4 3 rfl rfl)
theorem dX8_reads_95 : decode cX8_reads 95 = .ok (.getfield 57, 3) := dk_180 0 57 (dk_at dksX8_reads_4 4 rfl rfl)
theorem dX8_reads_98 : decode cX8_reads 98 = .ok (.putfield 57, 3) := dk_181 0 57 (dk_at dksX8_reads_4 7 rfl rfl)
theorem dX8_reads_101 : decode cX8_reads 101 = .ok (.aload_n 0, 1) := dk_42 (dk_at dksX8_reads_4 10 rfl rfl)
theorem dX8_reads_102 : decode cX8_reads 102 = .ok (.getfield 61, 3) := dk_180 0 61 (dk_at dksX8_reads_4 11 rfl rfl)
theorem dX8_reads_105 : decode cX8_reads 105 = .ok (.iconst 3, 1) := dk_6 (dk_at dksX8_reads_4 14 rfl rfl)
theorem dX8_reads_106 : decode cX8_reads 106 = .ok (.iload_n 1, 1) := dk_27 (dk_at dksX8_reads_4 15 rfl rfl)
theorem dX8_reads_107 : decode cX8_reads 107 = .ok (.imul, 1) := dk_104 (dk_at dksX8_reads_4 16 rfl rfl)
theorem dX8_reads_108 : decode cX8_reads 108 = .ok (.iload_n 3, 1) := dk_29 (dk_at dksX8_reads_4 17 rfl rfl)
theorem dX8_reads_109 : decode cX8_reads 109 = .ok (.iastore, 1) := dk_79 (dk_at dksX8_reads_4 18 rfl rfl)
theorem dX8_reads_110 : decode cX8_reads 110 = .ok (.iconst 1, 1) := dk_4 (dk_at dksX8_reads_4 19 rfl rfl)
theorem dX8_reads_111 : decode cX8_reads 111 = .ok (.istore 5, 2) := dk_54 5 (dk_at dksX8_reads_4 20 rfl rfl)
theorem dX8_reads_113 : decode cX8_reads 113 = .ok (.iload 5, 2) := dk_21 5 (dk_at dksX8_reads_4 22 rfl rfl)
theorem dX8_reads_115 : decode cX8_reads 115 = .ok (.iload 4, 2) := dk_21 4 (dk_at dksX8_reads_5 0 rfl rfl)
theorem dX8_reads_117 : decode cX8_reads 117 = .ok (.if_icmp .gt 105, 3) := dk_163 0 105 (dk_at dksX8_reads_5 2 rfl rfl)
theorem dX8_reads_120 : decode cX8_reads 120 = .ok (.aload_n 0, 1) := dk_42 (dk_at dksX8_reads_5 5 rfl rfl)
theorem dX8_reads_121 : decode cX8_reads 121 = .ok (.getfield 57, 3) := dk_180 0 57 (dk_at dksX8_reads_5 6 rfl rfl)
theorem dX8_reads_124 : decode cX8_reads 124 = .ok (.ifCond .ge 98, 3) := dk_156 0 98 (dk_at dksX8_reads_5 9 rfl rfl)
theorem dX8_reads_127 : decode cX8_reads 127 = .ok (.iload_n 2, 1) := dk_28 (dk_at dksX8_reads_5 12 rfl rfl)
theorem dX8_reads_128 : decode cX8_reads 128 = .ok (.iload 5, 2) := dk_21 5 (dk_at dksX8_reads_5 13 rfl rfl)
theorem dX8_reads_130 : decode cX8_reads 130 = .ok (.iadd, 1) := dk_96 (dk_at dksX8_reads_5 15 rfl rfl)
theorem dX8_reads_131 : decode cX8_reads 131 = .ok (.aload_n 0, 1) := dk_42 (dk_at dksX8_reads_5 16 rfl rfl)
theorem dX8_reads_132 : decode cX8_reads 132 = .ok (.getfield 281, 3) := dk_180 1 25 (dk_at dksX8_reads_5 17 rfl rfl)
theorem dX8_reads_135 : decode cX8_reads 135 = .ok (.if_icmp .ge 26, 3) := dk_162 0 26 (dk_at dksX8_reads_5 20 rfl rfl)
theorem dX8_reads_138 : decode cX8_reads 138 = .ok (.aload_n 0, 1) := dk_42 (dk_at dksX8_reads_5 23 rfl rfl)
theorem dX8_reads_139 : decode cX8_reads 139 = .ok (.getfield 54, 3) := dk_180 0 54 (dk_at dksX8_reads_6 0 rfl rfl)
theorem dX8_reads_142 : decode cX8_reads 142 = .ok (.iload_n 2, 1) := dk_28 (dk_at dksX8_reads_6 3 rfl rfl)
theorem dX8_reads_143 : decode cX8_reads 143 = .ok (.iload 5, 2) := dk_21 5 (dk_at dksX8_reads_6 4 rfl rfl)
theorem dX8_reads_145 : decode cX8_reads 145 = .ok (.iadd, 1) := dk_96 (dk_at dksX8_reads_6 6 rfl rfl)
theorem dX8_reads_146 : decode cX8_reads 146 = .ok (.caload, 1) := dk_52 (dk_at dksX8_reads_6 7 rfl rfl)
theorem dX8_reads_147 : decode cX8_reads 147 = .ok (.bipush 48, 2) := dk_16 48 (dk_at dksX8_reads_6 8 rfl rfl)
theorem dX8_reads_149 : decode cX8_reads 149 = .ok (.bipush 57, 2) := dk_16 57 (dk_at dksX8_reads_6 10 rfl rfl)
theorem dX8_reads_151 : decode cX8_reads 151 = .ok (.invokestatic 82, 3) := dk_184 0 82 (dk_at dksX8_reads_6 12 rfl rfl)
theorem dX8_reads_154 : decode cX8_reads 154 = .ok (.ifCond .eq 7, 3) := dk_153 0 7 (dk_at dksX8_reads_6 15 rfl rfl)
theorem dX8_reads_157 : decode cX8_reads 157 = .ok (.iconst 1, 1) := dk_4 (dk_at dksX8_reads_6 18 rfl rfl)
theorem dX8_reads_158 : decode cX8_reads 158 = .ok (.goto 4, 3) := dk_167 0 4 (dk_at dksX8_reads_6 19 rfl rfl)
theorem dX8_reads_161 : decode cX8_reads 161 = .ok (.iconst 0, 1) := dk_3 (dk_at dksX8_reads_6 22 rfl rfl)
theorem dX8_reads_162 : decode cX8_reads 162 = .ok (.istore 6, 2) := dk_54 6 (dk_at dksX8_reads_7 0 rfl rfl)
theorem dX8_reads_164 : decode cX8_reads 164 = .ok (.aload_n 0, 1) := dk_42 (dk_at dksX8_reads_7 2 rfl rfl)
theorem dX8_reads_165 : decode cX8_reads 165 = .ok (.iload 6, 2) := dk_21 6 (dk_at dksX8_reads_7 3 rfl rfl)
theorem dX8_reads_167 : decode cX8_reads 167 = .ok (.ifCond .eq 10, 3) := dk_153 0 10 (dk_at dksX8_reads_7 5 rfl rfl)
theorem dX8_reads_170 : decode cX8_reads 170 = .ok (.aload_n 0, 1) := dk_42 (dk_at dksX8_reads_7 8 rfl rfl)
theorem dX8_reads_171 : decode cX8_reads 171 = .ok (.getfield 57, 3) := dk_180 0 57 (dk_at dksX8_reads_7 9 rfl rfl)
theorem dX8_reads_174 : decode cX8_reads 174 = .ok (.goto 7, 3) := dk_167 0 7 (dk_at dksX8_reads_7 12 rfl rfl)
theorem dX8_reads_177 : decode cX8_reads 177 = .ok (.iload_n 2, 1) := dk_28 (dk_at dksX8_reads_7 15 rfl rfl)
theorem dX8_reads_178 : decode cX8_reads 178 = .ok (.iload 5, 2) := dk_21 5 (dk_at dksX8_reads_7 16 rfl rfl)
theorem dX8_reads_180 : decode cX8_reads 180 = .ok (.iadd, 1) := dk_96 (dk_at dksX8_reads_7 18 rfl rfl)
theorem dX8_reads_181 : decode cX8_reads 181 = .ok (.putfield 57, 3) := dk_181 0 57 (dk_at dksX8_reads_7 19 rfl rfl)
theorem dX8_reads_184 : decode cX8_reads 184 = .ok (.aload_n 0, 1) := dk_42 (dk_at dksX8_reads_7 22 rfl rfl)
theorem dX8_reads_185 : decode cX8_reads 185 = .ok (.getfield 61, 3) := dk_180 0 61 (dk_at dksX8_reads_8 0 rfl rfl)
theorem dX8_reads_188 : decode cX8_reads 188 = .ok (.iconst 3, 1) := dk_6 (dk_at dksX8_reads_8 3 rfl rfl)
theorem dX8_reads_189 : decode cX8_reads 189 = .ok (.iload_n 1, 1) := dk_27 (dk_at dksX8_reads_8 4 rfl rfl)
theorem dX8_reads_190 : decode cX8_reads 190 = .ok (.imul, 1) := dk_104 (dk_at dksX8_reads_8 5 rfl rfl)
theorem dX8_reads_191 : decode cX8_reads 191 = .ok (.iload 5, 2) := dk_21 5 (dk_at dksX8_reads_8 6 rfl rfl)
theorem dX8_reads_193 : decode cX8_reads 193 = .ok (.iadd, 1) := dk_96 (dk_at dksX8_reads_8 8 rfl rfl)
theorem dX8_reads_194 : decode cX8_reads 194 = .ok (.iload 6, 2) := dk_21 6 (dk_at dksX8_reads_8 9 rfl rfl)
theorem dX8_reads_196 : decode cX8_reads 196 = .ok (.ifCond .eq 18, 3) := dk_153 0 18 (dk_at dksX8_reads_8 11 rfl rfl)
theorem dX8_reads_199 : decode cX8_reads 199 = .ok (.aload_n 0, 1) := dk_42 (dk_at dksX8_reads_8 14 rfl rfl)
theorem dX8_reads_200 : decode cX8_reads 200 = .ok (.getfield 54, 3) := dk_180 0 54 (dk_at dksX8_reads_8 15 rfl rfl)
theorem dX8_reads_203 : decode cX8_reads 203 = .ok (.iload_n 2, 1) := dk_28 (dk_at dksX8_reads_8 18 rfl rfl)
theorem dX8_reads_204 : decode cX8_reads 204 = .ok (.iload 5, 2) := dk_21 5 (dk_at dksX8_reads_8 19 rfl rfl)
theorem dX8_reads_206 : decode cX8_reads 206 = .ok (.iadd, 1) := dk_96 (dk_at dksX8_reads_8 21 rfl rfl)
theorem dX8_reads_207 : decode cX8_reads 207 = .ok (.caload, 1) := dk_52 (dk_at dksX8_reads_8 22 rfl rfl)
theorem dX8_reads_208 : decode cX8_reads 208 = .ok (.bipush 48, 2) := dk_16 48 (dk_at dksX8_reads_9 0 rfl rfl)
theorem dX8_reads_210 : decode cX8_reads 210 = .ok (.isub, 1) := dk_100 (dk_at dksX8_reads_9 2 rfl rfl)
theorem dX8_reads_211 : decode cX8_reads 211 = .ok (.goto 4, 3) := dk_167 0 4 (dk_at dksX8_reads_9 3 rfl rfl)
theorem dX8_reads_214 : decode cX8_reads 214 = .ok (.iconst 0, 1) := dk_3 (dk_at dksX8_reads_9 6 rfl rfl)
theorem dX8_reads_215 : decode cX8_reads 215 = .ok (.iastore, 1) := dk_79 (dk_at dksX8_reads_9 7 rfl rfl)
theorem dX8_reads_216 : decode cX8_reads 216 = .ok (.iinc 5 1, 3) := dk_132 5 1 (dk_at dksX8_reads_9 8 rfl rfl)
theorem dX8_reads_219 : decode cX8_reads 219 = .ok (.goto (-106), 3) := dk_167 255 150 (dk_at dksX8_reads_9 11 rfl rfl)
theorem dX8_reads_222 : decode cX8_reads 222 = .ok (.iload_n 2, 1) := dk_28 (dk_at dksX8_reads_9 14 rfl rfl)
theorem dX8_reads_223 : decode cX8_reads 223 = .ok (.iload 4, 2) := dk_21 4 (dk_at dksX8_reads_9 15 rfl rfl)
theorem dX8_reads_225 : decode cX8_reads 225 = .ok (.iconst 1, 1) := dk_4 (dk_at dksX8_reads_9 17 rfl rfl)
theorem dX8_reads_226 : decode cX8_reads 226 = .ok (.iadd, 1) := dk_96 (dk_at dksX8_reads_9 18 rfl rfl)
theorem dX8_reads_227 : decode cX8_reads 227 = .ok (.iadd, 1) := dk_96 (dk_at dksX8_reads_9 19 rfl rfl)
theorem dX8_reads_228 : decode cX8_reads 228 = .ok (.istore_n 2, 1) := dk_61 (dk_at dksX8_reads_9 20 rfl rfl)
theorem dX8_reads_229 : decode cX8_reads 229 = .ok (.iinc 1 1, 3) := dk_132 1 1 (dk_at dksX8_reads_9 21 rfl rfl)
theorem dX8_reads_232 : decode cX8_reads 232 = .ok (.goto (-212), 3) := dk_167 255 44 (dk_at dksX8_reads_10 0 rfl rfl)
theorem dX8_reads_235 : decode cX8_reads 235 = .ok (.aload_n 0, 1) := dk_42 (dk_at dksX8_reads_10 3 rfl rfl)
theorem dX8_reads_236 : decode cX8_reads 236 = .ok (.iconst 0, 1) := dk_3 (dk_at dksX8_reads_10 4 rfl rfl)
theorem dX8_reads_237 : decode cX8_reads 237 = .ok (.putfield 281, 3) := dk_181 1 25 (dk_at dksX8_reads_10 5 rfl rfl)
theorem dX8_reads_240 : decode cX8_reads 240 = .ok (.iload_n 1, 1) := dk_27 (dk_at dksX8_reads_10 8 rfl rfl)
theorem dX8_reads_241 : decode cX8_reads 241 = .ok (.ireturn, 1) := dk_172 (dk_at dksX8_reads_10 9 rfl rfl)
abbrev cX8_sortOf : ByteArray := prog_15_method_73_code
def yX8_sortOf : MethodName := ⟨RX8, "sortOf", "(C)I"⟩
def dkwX8_sortOf_1 : List UInt8 := [167, 0, 4, 27, 60, 132, 2, 1, 167, 255, 230, 27, 172]
abbrev dktX8_sortOf_1 : List UInt8 := dkwX8_sortOf_1 ++ []
def dkwX8_sortOf_0 : List UInt8 := [2, 60, 3, 61, 28, 16, 9, 163, 0, 26, 19, 1, 13, 28, 182, 1, 15, 26, 160, 0, 7, 28]
abbrev dktX8_sortOf_0 : List UInt8 := dkwX8_sortOf_0 ++ dktX8_sortOf_1
theorem dksX8_sortOf_0 : cX8_sortOf.data.toList.drop 0 = dktX8_sortOf_0 := by decide +kernel
theorem dksX8_sortOf_1 : cX8_sortOf.data.toList.drop 22 = dktX8_sortOf_1 := dk_seg dksX8_sortOf_0 22 rfl rfl
theorem dX8_sortOf_0 : decode cX8_sortOf 0 = .ok (.iconst (-1), 1) := dk_2 (dk_at dksX8_sortOf_0 0 rfl rfl)
theorem dX8_sortOf_1 : decode cX8_sortOf 1 = .ok (.istore_n 1, 1) := dk_60 (dk_at dksX8_sortOf_0 1 rfl rfl)
theorem dX8_sortOf_2 : decode cX8_sortOf 2 = .ok (.iconst 0, 1) := dk_3 (dk_at dksX8_sortOf_0 2 rfl rfl)
theorem dX8_sortOf_3 : decode cX8_sortOf 3 = .ok (.istore_n 2, 1) := dk_61 (dk_at dksX8_sortOf_0 3 rfl rfl)
theorem dX8_sortOf_4 : decode cX8_sortOf 4 = .ok (.iload_n 2, 1) := dk_28 (dk_at dksX8_sortOf_0 4 rfl rfl)
theorem dX8_sortOf_5 : decode cX8_sortOf 5 = .ok (.bipush 9, 2) := dk_16 9 (dk_at dksX8_sortOf_0 5 rfl rfl)
theorem dX8_sortOf_7 : decode cX8_sortOf 7 = .ok (.if_icmp .gt 26, 3) := dk_163 0 26 (dk_at dksX8_sortOf_0 7 rfl rfl)
theorem dX8_sortOf_10 : decode cX8_sortOf 10 = .ok (.ldc_w 269, 3) := dk_19 1 13 (dk_at dksX8_sortOf_0 10 rfl rfl)
theorem dX8_sortOf_13 : decode cX8_sortOf 13 = .ok (.iload_n 2, 1) := dk_28 (dk_at dksX8_sortOf_0 13 rfl rfl)
theorem dX8_sortOf_14 : decode cX8_sortOf 14 = .ok (.invokevirtual 271, 3) := dk_182 1 15 (dk_at dksX8_sortOf_0 14 rfl rfl)
theorem dX8_sortOf_17 : decode cX8_sortOf 17 = .ok (.iload_n 0, 1) := dk_26 (dk_at dksX8_sortOf_0 17 rfl rfl)
theorem dX8_sortOf_18 : decode cX8_sortOf 18 = .ok (.if_icmp .ne 7, 3) := dk_160 0 7 (dk_at dksX8_sortOf_0 18 rfl rfl)
theorem dX8_sortOf_21 : decode cX8_sortOf 21 = .ok (.iload_n 2, 1) := dk_28 (dk_at dksX8_sortOf_0 21 rfl rfl)
theorem dX8_sortOf_22 : decode cX8_sortOf 22 = .ok (.goto 4, 3) := dk_167 0 4 (dk_at dksX8_sortOf_1 0 rfl rfl)
theorem dX8_sortOf_25 : decode cX8_sortOf 25 = .ok (.iload_n 1, 1) := dk_27 (dk_at dksX8_sortOf_1 3 rfl rfl)
theorem dX8_sortOf_26 : decode cX8_sortOf 26 = .ok (.istore_n 1, 1) := dk_60 (dk_at dksX8_sortOf_1 4 rfl rfl)
theorem dX8_sortOf_27 : decode cX8_sortOf 27 = .ok (.iinc 2 1, 3) := dk_132 2 1 (dk_at dksX8_sortOf_1 5 rfl rfl)
theorem dX8_sortOf_30 : decode cX8_sortOf 30 = .ok (.goto (-26), 3) := dk_167 255 230 (dk_at dksX8_sortOf_1 8 rfl rfl)
theorem dX8_sortOf_33 : decode cX8_sortOf 33 = .ok (.iload_n 1, 1) := dk_27 (dk_at dksX8_sortOf_1 11 rfl rfl)
theorem dX8_sortOf_34 : decode cX8_sortOf 34 = .ok (.ireturn, 1) := dk_172 (dk_at dksX8_sortOf_1 12 rfl rfl)
abbrev cX8_errorPosition : ByteArray := prog_15_method_76_code
def yX8_errorPosition : MethodName := ⟨RX8, "errorPosition", "()I"⟩
def dkwX8_errorPosition_0 : List UInt8 := [42, 3, 181, 0, 64, 42, 180, 0, 57, 172]
abbrev dktX8_errorPosition_0 : List UInt8 := dkwX8_errorPosition_0 ++ []
theorem dksX8_errorPosition_0 : cX8_errorPosition.data.toList.drop 0 = dktX8_errorPosition_0 := by decide +kernel
theorem dX8_errorPosition_0 : decode cX8_errorPosition 0 = .ok (.aload_n 0, 1) := dk_42 (dk_at dksX8_errorPosition_0 0 rfl rfl)
theorem dX8_errorPosition_1 : decode cX8_errorPosition 1 = .ok (.iconst 0, 1) := dk_3 (dk_at dksX8_errorPosition_0 1 rfl rfl)
theorem dX8_errorPosition_2 : decode cX8_errorPosition 2 = .ok (.putfield 64, 3) := dk_181 0 64 (dk_at dksX8_errorPosition_0 2 rfl rfl)
theorem dX8_errorPosition_5 : decode cX8_errorPosition 5 = .ok (.aload_n 0, 1) := dk_42 (dk_at dksX8_errorPosition_0 5 rfl rfl)
theorem dX8_errorPosition_6 : decode cX8_errorPosition 6 = .ok (.getfield 57, 3) := dk_180 0 57 (dk_at dksX8_errorPosition_0 6 rfl rfl)
theorem dX8_errorPosition_9 : decode cX8_errorPosition 9 = .ok (.ireturn, 1) := dk_172 (dk_at dksX8_errorPosition_0 9 rfl rfl)
abbrev cX8_account : ByteArray := prog_15_method_79_code
def yX8_account : MethodName := ⟨RX8, "account", "(I)I"⟩
def dkwX8_account_6 : List UInt8 := [5, 46, 172, 42, 180, 1, 25, 172, 42, 180, 0, 73, 172]
abbrev dktX8_account_6 : List UInt8 := dkwX8_account_6 ++ []
def dkwX8_account_5 : List UInt8 := [182, 1, 38, 172, 42, 182, 0, 169, 153, 0, 10, 42, 180, 0, 160, 167, 0, 4, 2, 172, 42, 180, 0, 9]
abbrev dktX8_account_5 : List UInt8 := dkwX8_account_5 ++ dktX8_account_6
def dkwX8_account_4 : List UInt8 := [180, 0, 9, 16, 7, 46, 96, 42, 180, 0, 9, 16, 8, 46, 96, 172, 42, 182, 1, 35, 172, 42]
abbrev dktX8_account_4 : List UInt8 := dkwX8_account_4 ++ dktX8_account_5
def dkwX8_account_3 : List UInt8 := [42, 180, 0, 9, 3, 46, 172, 42, 180, 0, 9, 4, 46, 172, 42, 180, 0, 9, 16, 6, 46, 42]
abbrev dktX8_account_3 : List UInt8 := dkwX8_account_3 ++ dktX8_account_4
def dkwX8_account_2 : List UInt8 := [170, 0, 0, 0, 0, 0, 123, 0, 0, 0, 0, 0, 0, 0, 7, 0, 0, 0, 47, 0, 0, 0, 54, 0, 0, 0, 61, 0, 0, 0, 85, 0, 0, 0, 90, 0, 0, 0, 95, 0, 0, 0, 111, 0, 0, 0, 118]
abbrev dktX8_account_2 : List UInt8 := dkwX8_account_2 ++ dktX8_account_3
def dkwX8_account_1 : List UInt8 := [158, 0, 5, 3, 172, 27]
abbrev dktX8_account_1 : List UInt8 := dkwX8_account_1 ++ dktX8_account_2
def dkwX8_account_0 : List UInt8 := [42, 27, 3, 16, 8, 184, 0, 82, 153, 0, 7, 3, 167, 0, 4, 4, 181, 0, 64, 42, 180, 0, 64]
abbrev dktX8_account_0 : List UInt8 := dkwX8_account_0 ++ dktX8_account_1
theorem dksX8_account_0 : cX8_account.data.toList.drop 0 = dktX8_account_0 := by decide +kernel
theorem dksX8_account_1 : cX8_account.data.toList.drop 23 = dktX8_account_1 := dk_seg dksX8_account_0 23 rfl rfl
theorem dksX8_account_2 : cX8_account.data.toList.drop 29 = dktX8_account_2 := dk_seg dksX8_account_1 6 rfl rfl
theorem dksX8_account_3 : cX8_account.data.toList.drop 76 = dktX8_account_3 := dk_seg dksX8_account_2 47 rfl rfl
theorem dksX8_account_4 : cX8_account.data.toList.drop 98 = dktX8_account_4 := dk_seg dksX8_account_3 22 rfl rfl
theorem dksX8_account_5 : cX8_account.data.toList.drop 120 = dktX8_account_5 := dk_seg dksX8_account_4 22 rfl rfl
theorem dksX8_account_6 : cX8_account.data.toList.drop 144 = dktX8_account_6 := dk_seg dksX8_account_5 24 rfl rfl
theorem dX8_account_0 : decode cX8_account 0 = .ok (.aload_n 0, 1) := dk_42 (dk_at dksX8_account_0 0 rfl rfl)
theorem dX8_account_1 : decode cX8_account 1 = .ok (.iload_n 1, 1) := dk_27 (dk_at dksX8_account_0 1 rfl rfl)
theorem dX8_account_2 : decode cX8_account 2 = .ok (.iconst 0, 1) := dk_3 (dk_at dksX8_account_0 2 rfl rfl)
theorem dX8_account_3 : decode cX8_account 3 = .ok (.bipush 8, 2) := dk_16 8 (dk_at dksX8_account_0 3 rfl rfl)
theorem dX8_account_5 : decode cX8_account 5 = .ok (.invokestatic 82, 3) := dk_184 0 82 (dk_at dksX8_account_0 5 rfl rfl)
theorem dX8_account_8 : decode cX8_account 8 = .ok (.ifCond .eq 7, 3) := dk_153 0 7 (dk_at dksX8_account_0 8 rfl rfl)
theorem dX8_account_11 : decode cX8_account 11 = .ok (.iconst 0, 1) := dk_3 (dk_at dksX8_account_0 11 rfl rfl)
theorem dX8_account_12 : decode cX8_account 12 = .ok (.goto 4, 3) := dk_167 0 4 (dk_at dksX8_account_0 12 rfl rfl)
theorem dX8_account_15 : decode cX8_account 15 = .ok (.iconst 1, 1) := dk_4 (dk_at dksX8_account_0 15 rfl rfl)
theorem dX8_account_16 : decode cX8_account 16 = .ok (.putfield 64, 3) := dk_181 0 64 (dk_at dksX8_account_0 16 rfl rfl)
theorem dX8_account_19 : decode cX8_account 19 = .ok (.aload_n 0, 1) := dk_42 (dk_at dksX8_account_0 19 rfl rfl)
theorem dX8_account_20 : decode cX8_account 20 = .ok (.getfield 64, 3) := dk_180 0 64 (dk_at dksX8_account_0 20 rfl rfl)
theorem dX8_account_23 : decode cX8_account 23 = .ok (.ifCond .le 5, 3) := dk_158 0 5 (dk_at dksX8_account_1 0 rfl rfl)
theorem dX8_account_26 : decode cX8_account 26 = .ok (.iconst 0, 1) := dk_3 (dk_at dksX8_account_1 3 rfl rfl)
theorem dX8_account_27 : decode cX8_account 27 = .ok (.ireturn, 1) := dk_172 (dk_at dksX8_account_1 4 rfl rfl)
theorem dX8_account_28 : decode cX8_account 28 = .ok (.iload_n 1, 1) := dk_27 (dk_at dksX8_account_1 5 rfl rfl)
theorem dX8_account_29 : decode cX8_account 29 = .ok (.tableswitch 123 0 7 #[47, 54, 61, 85, 90, 95, 111, 118], 47) := by decide +kernel
theorem dX8_account_76 : decode cX8_account 76 = .ok (.aload_n 0, 1) := dk_42 (dk_at dksX8_account_3 0 rfl rfl)
theorem dX8_account_77 : decode cX8_account 77 = .ok (.getfield 9, 3) := dk_180 0 9 (dk_at dksX8_account_3 1 rfl rfl)
theorem dX8_account_80 : decode cX8_account 80 = .ok (.iconst 0, 1) := dk_3 (dk_at dksX8_account_3 4 rfl rfl)
theorem dX8_account_81 : decode cX8_account 81 = .ok (.iaload, 1) := dk_46 (dk_at dksX8_account_3 5 rfl rfl)
theorem dX8_account_82 : decode cX8_account 82 = .ok (.ireturn, 1) := dk_172 (dk_at dksX8_account_3 6 rfl rfl)
theorem dX8_account_83 : decode cX8_account 83 = .ok (.aload_n 0, 1) := dk_42 (dk_at dksX8_account_3 7 rfl rfl)
theorem dX8_account_84 : decode cX8_account 84 = .ok (.getfield 9, 3) := dk_180 0 9 (dk_at dksX8_account_3 8 rfl rfl)
theorem dX8_account_87 : decode cX8_account 87 = .ok (.iconst 1, 1) := dk_4 (dk_at dksX8_account_3 11 rfl rfl)
theorem dX8_account_88 : decode cX8_account 88 = .ok (.iaload, 1) := dk_46 (dk_at dksX8_account_3 12 rfl rfl)
theorem dX8_account_89 : decode cX8_account 89 = .ok (.ireturn, 1) := dk_172 (dk_at dksX8_account_3 13 rfl rfl)
theorem dX8_account_90 : decode cX8_account 90 = .ok (.aload_n 0, 1) := dk_42 (dk_at dksX8_account_3 14 rfl rfl)
theorem dX8_account_91 : decode cX8_account 91 = .ok (.getfield 9, 3) := dk_180 0 9 (dk_at dksX8_account_3 15 rfl rfl)
theorem dX8_account_94 : decode cX8_account 94 = .ok (.bipush 6, 2) := dk_16 6 (dk_at dksX8_account_3 18 rfl rfl)
theorem dX8_account_96 : decode cX8_account 96 = .ok (.iaload, 1) := dk_46 (dk_at dksX8_account_3 20 rfl rfl)
theorem dX8_account_97 : decode cX8_account 97 = .ok (.aload_n 0, 1) := dk_42 (dk_at dksX8_account_3 21 rfl rfl)
theorem dX8_account_98 : decode cX8_account 98 = .ok (.getfield 9, 3) := dk_180 0 9 (dk_at dksX8_account_4 0 rfl rfl)
theorem dX8_account_101 : decode cX8_account 101 = .ok (.bipush 7, 2) := dk_16 7 (dk_at dksX8_account_4 3 rfl rfl)
theorem dX8_account_103 : decode cX8_account 103 = .ok (.iaload, 1) := dk_46 (dk_at dksX8_account_4 5 rfl rfl)
theorem dX8_account_104 : decode cX8_account 104 = .ok (.iadd, 1) := dk_96 (dk_at dksX8_account_4 6 rfl rfl)
theorem dX8_account_105 : decode cX8_account 105 = .ok (.aload_n 0, 1) := dk_42 (dk_at dksX8_account_4 7 rfl rfl)
theorem dX8_account_106 : decode cX8_account 106 = .ok (.getfield 9, 3) := dk_180 0 9 (dk_at dksX8_account_4 8 rfl rfl)
theorem dX8_account_109 : decode cX8_account 109 = .ok (.bipush 8, 2) := dk_16 8 (dk_at dksX8_account_4 11 rfl rfl)
theorem dX8_account_111 : decode cX8_account 111 = .ok (.iaload, 1) := dk_46 (dk_at dksX8_account_4 13 rfl rfl)
theorem dX8_account_112 : decode cX8_account 112 = .ok (.iadd, 1) := dk_96 (dk_at dksX8_account_4 14 rfl rfl)
theorem dX8_account_113 : decode cX8_account 113 = .ok (.ireturn, 1) := dk_172 (dk_at dksX8_account_4 15 rfl rfl)
theorem dX8_account_114 : decode cX8_account 114 = .ok (.aload_n 0, 1) := dk_42 (dk_at dksX8_account_4 16 rfl rfl)
theorem dX8_account_115 : decode cX8_account 115 = .ok (.invokevirtual 291, 3) := dk_182 1 35 (dk_at dksX8_account_4 17 rfl rfl)
theorem dX8_account_118 : decode cX8_account 118 = .ok (.ireturn, 1) := dk_172 (dk_at dksX8_account_4 20 rfl rfl)
theorem dX8_account_119 : decode cX8_account 119 = .ok (.aload_n 0, 1) := dk_42 (dk_at dksX8_account_4 21 rfl rfl)
theorem dX8_account_120 : decode cX8_account 120 = .ok (.invokevirtual 294, 3) := dk_182 1 38 (dk_at dksX8_account_5 0 rfl rfl)
theorem dX8_account_123 : decode cX8_account 123 = .ok (.ireturn, 1) := dk_172 (dk_at dksX8_account_5 3 rfl rfl)
theorem dX8_account_124 : decode cX8_account 124 = .ok (.aload_n 0, 1) := dk_42 (dk_at dksX8_account_5 4 rfl rfl)
theorem dX8_account_125 : decode cX8_account 125 = .ok (.invokevirtual 169, 3) := dk_182 0 169 (dk_at dksX8_account_5 5 rfl rfl)
theorem dX8_account_128 : decode cX8_account 128 = .ok (.ifCond .eq 10, 3) := dk_153 0 10 (dk_at dksX8_account_5 8 rfl rfl)
theorem dX8_account_131 : decode cX8_account 131 = .ok (.aload_n 0, 1) := dk_42 (dk_at dksX8_account_5 11 rfl rfl)
theorem dX8_account_132 : decode cX8_account 132 = .ok (.getfield 160, 3) := dk_180 0 160 (dk_at dksX8_account_5 12 rfl rfl)
theorem dX8_account_135 : decode cX8_account 135 = .ok (.goto 4, 3) := dk_167 0 4 (dk_at dksX8_account_5 15 rfl rfl)
theorem dX8_account_138 : decode cX8_account 138 = .ok (.iconst (-1), 1) := dk_2 (dk_at dksX8_account_5 18 rfl rfl)
theorem dX8_account_139 : decode cX8_account 139 = .ok (.ireturn, 1) := dk_172 (dk_at dksX8_account_5 19 rfl rfl)
theorem dX8_account_140 : decode cX8_account 140 = .ok (.aload_n 0, 1) := dk_42 (dk_at dksX8_account_5 20 rfl rfl)
theorem dX8_account_141 : decode cX8_account 141 = .ok (.getfield 9, 3) := dk_180 0 9 (dk_at dksX8_account_5 21 rfl rfl)
theorem dX8_account_144 : decode cX8_account 144 = .ok (.iconst 2, 1) := dk_5 (dk_at dksX8_account_6 0 rfl rfl)
theorem dX8_account_145 : decode cX8_account 145 = .ok (.iaload, 1) := dk_46 (dk_at dksX8_account_6 1 rfl rfl)
theorem dX8_account_146 : decode cX8_account 146 = .ok (.ireturn, 1) := dk_172 (dk_at dksX8_account_6 2 rfl rfl)
theorem dX8_account_147 : decode cX8_account 147 = .ok (.aload_n 0, 1) := dk_42 (dk_at dksX8_account_6 3 rfl rfl)
theorem dX8_account_148 : decode cX8_account 148 = .ok (.getfield 281, 3) := dk_180 1 25 (dk_at dksX8_account_6 4 rfl rfl)
theorem dX8_account_151 : decode cX8_account 151 = .ok (.ireturn, 1) := dk_172 (dk_at dksX8_account_6 7 rfl rfl)
theorem dX8_account_152 : decode cX8_account 152 = .ok (.aload_n 0, 1) := dk_42 (dk_at dksX8_account_6 8 rfl rfl)
theorem dX8_account_153 : decode cX8_account 153 = .ok (.getfield 73, 3) := dk_180 0 73 (dk_at dksX8_account_6 9 rfl rfl)
theorem dX8_account_156 : decode cX8_account 156 = .ok (.ireturn, 1) := dk_172 (dk_at dksX8_account_6 12 rfl rfl)
abbrev cX8_allWorth : ByteArray := prog_15_method_78_code
def yX8_allWorth : MethodName := ⟨RX8, "allWorth", "()I"⟩
def dkwX8_allWorth_1 : List UInt8 := [96, 60, 132, 2, 1, 167, 255, 231, 27, 172]
abbrev dktX8_allWorth_1 : List UInt8 := dkwX8_allWorth_1 ++ []
def dkwX8_allWorth_0 : List UInt8 := [3, 60, 3, 61, 28, 42, 180, 0, 9, 3, 46, 162, 0, 21, 27, 42, 180, 0, 9, 16, 29, 28, 96, 46]
abbrev dktX8_allWorth_0 : List UInt8 := dkwX8_allWorth_0 ++ dktX8_allWorth_1
theorem dksX8_allWorth_0 : cX8_allWorth.data.toList.drop 0 = dktX8_allWorth_0 := by decide +kernel
theorem dksX8_allWorth_1 : cX8_allWorth.data.toList.drop 24 = dktX8_allWorth_1 := dk_seg dksX8_allWorth_0 24 rfl rfl
theorem dX8_allWorth_0 : decode cX8_allWorth 0 = .ok (.iconst 0, 1) := dk_3 (dk_at dksX8_allWorth_0 0 rfl rfl)
theorem dX8_allWorth_1 : decode cX8_allWorth 1 = .ok (.istore_n 1, 1) := dk_60 (dk_at dksX8_allWorth_0 1 rfl rfl)
theorem dX8_allWorth_2 : decode cX8_allWorth 2 = .ok (.iconst 0, 1) := dk_3 (dk_at dksX8_allWorth_0 2 rfl rfl)
theorem dX8_allWorth_3 : decode cX8_allWorth 3 = .ok (.istore_n 2, 1) := dk_61 (dk_at dksX8_allWorth_0 3 rfl rfl)
theorem dX8_allWorth_4 : decode cX8_allWorth 4 = .ok (.iload_n 2, 1) := dk_28 (dk_at dksX8_allWorth_0 4 rfl rfl)
theorem dX8_allWorth_5 : decode cX8_allWorth 5 = .ok (.aload_n 0, 1) := dk_42 (dk_at dksX8_allWorth_0 5 rfl rfl)
theorem dX8_allWorth_6 : decode cX8_allWorth 6 = .ok (.getfield 9, 3) := dk_180 0 9 (dk_at dksX8_allWorth_0 6 rfl rfl)
theorem dX8_allWorth_9 : decode cX8_allWorth 9 = .ok (.iconst 0, 1) := dk_3 (dk_at dksX8_allWorth_0 9 rfl rfl)
theorem dX8_allWorth_10 : decode cX8_allWorth 10 = .ok (.iaload, 1) := dk_46 (dk_at dksX8_allWorth_0 10 rfl rfl)
theorem dX8_allWorth_11 : decode cX8_allWorth 11 = .ok (.if_icmp .ge 21, 3) := dk_162 0 21 (dk_at dksX8_allWorth_0 11 rfl rfl)
theorem dX8_allWorth_14 : decode cX8_allWorth 14 = .ok (.iload_n 1, 1) := dk_27 (dk_at dksX8_allWorth_0 14 rfl rfl)
theorem dX8_allWorth_15 : decode cX8_allWorth 15 = .ok (.aload_n 0, 1) := dk_42 (dk_at dksX8_allWorth_0 15 rfl rfl)
theorem dX8_allWorth_16 : decode cX8_allWorth 16 = .ok (.getfield 9, 3) := dk_180 0 9 (dk_at dksX8_allWorth_0 16 rfl rfl)
theorem dX8_allWorth_19 : decode cX8_allWorth 19 = .ok (.bipush 29, 2) := dk_16 29 (dk_at dksX8_allWorth_0 19 rfl rfl)
theorem dX8_allWorth_21 : decode cX8_allWorth 21 = .ok (.iload_n 2, 1) := dk_28 (dk_at dksX8_allWorth_0 21 rfl rfl)
theorem dX8_allWorth_22 : decode cX8_allWorth 22 = .ok (.iadd, 1) := dk_96 (dk_at dksX8_allWorth_0 22 rfl rfl)
theorem dX8_allWorth_23 : decode cX8_allWorth 23 = .ok (.iaload, 1) := dk_46 (dk_at dksX8_allWorth_0 23 rfl rfl)
theorem dX8_allWorth_24 : decode cX8_allWorth 24 = .ok (.iadd, 1) := dk_96 (dk_at dksX8_allWorth_1 0 rfl rfl)
theorem dX8_allWorth_25 : decode cX8_allWorth 25 = .ok (.istore_n 1, 1) := dk_60 (dk_at dksX8_allWorth_1 1 rfl rfl)
theorem dX8_allWorth_26 : decode cX8_allWorth 26 = .ok (.iinc 2 1, 3) := dk_132 2 1 (dk_at dksX8_allWorth_1 2 rfl rfl)
theorem dX8_allWorth_29 : decode cX8_allWorth 29 = .ok (.goto (-25), 3) := dk_167 255 231 (dk_at dksX8_allWorth_1 5 rfl rfl)
theorem dX8_allWorth_32 : decode cX8_allWorth 32 = .ok (.iload_n 1, 1) := dk_27 (dk_at dksX8_allWorth_1 8 rfl rfl)
theorem dX8_allWorth_33 : decode cX8_allWorth 33 = .ok (.ireturn, 1) := dk_172 (dk_at dksX8_allWorth_1 9 rfl rfl)
abbrev cX8_choices : ByteArray := prog_15_method_77_code
def yX8_choices : MethodName := ⟨RX8, "choices", "()I"⟩
def dkwX8_choices_1 : List UInt8 := [160, 0, 7, 4, 167, 0, 4, 3, 96, 60, 132, 2, 1, 167, 255, 225, 27, 172]
abbrev dktX8_choices_1 : List UInt8 := dkwX8_choices_1 ++ []
def dkwX8_choices_0 : List UInt8 := [3, 60, 3, 61, 28, 42, 180, 0, 9, 4, 46, 162, 0, 27, 27, 42, 28, 182, 0, 110, 16, 7]
abbrev dktX8_choices_0 : List UInt8 := dkwX8_choices_0 ++ dktX8_choices_1
theorem dksX8_choices_0 : cX8_choices.data.toList.drop 0 = dktX8_choices_0 := by decide +kernel
theorem dksX8_choices_1 : cX8_choices.data.toList.drop 22 = dktX8_choices_1 := dk_seg dksX8_choices_0 22 rfl rfl
theorem dX8_choices_0 : decode cX8_choices 0 = .ok (.iconst 0, 1) := dk_3 (dk_at dksX8_choices_0 0 rfl rfl)
theorem dX8_choices_1 : decode cX8_choices 1 = .ok (.istore_n 1, 1) := dk_60 (dk_at dksX8_choices_0 1 rfl rfl)
theorem dX8_choices_2 : decode cX8_choices 2 = .ok (.iconst 0, 1) := dk_3 (dk_at dksX8_choices_0 2 rfl rfl)
theorem dX8_choices_3 : decode cX8_choices 3 = .ok (.istore_n 2, 1) := dk_61 (dk_at dksX8_choices_0 3 rfl rfl)
theorem dX8_choices_4 : decode cX8_choices 4 = .ok (.iload_n 2, 1) := dk_28 (dk_at dksX8_choices_0 4 rfl rfl)
theorem dX8_choices_5 : decode cX8_choices 5 = .ok (.aload_n 0, 1) := dk_42 (dk_at dksX8_choices_0 5 rfl rfl)
theorem dX8_choices_6 : decode cX8_choices 6 = .ok (.getfield 9, 3) := dk_180 0 9 (dk_at dksX8_choices_0 6 rfl rfl)
theorem dX8_choices_9 : decode cX8_choices 9 = .ok (.iconst 1, 1) := dk_4 (dk_at dksX8_choices_0 9 rfl rfl)
theorem dX8_choices_10 : decode cX8_choices 10 = .ok (.iaload, 1) := dk_46 (dk_at dksX8_choices_0 10 rfl rfl)
theorem dX8_choices_11 : decode cX8_choices 11 = .ok (.if_icmp .ge 27, 3) := dk_162 0 27 (dk_at dksX8_choices_0 11 rfl rfl)
theorem dX8_choices_14 : decode cX8_choices 14 = .ok (.iload_n 1, 1) := dk_27 (dk_at dksX8_choices_0 14 rfl rfl)
theorem dX8_choices_15 : decode cX8_choices 15 = .ok (.aload_n 0, 1) := dk_42 (dk_at dksX8_choices_0 15 rfl rfl)
theorem dX8_choices_16 : decode cX8_choices 16 = .ok (.iload_n 2, 1) := dk_28 (dk_at dksX8_choices_0 16 rfl rfl)
theorem dX8_choices_17 : decode cX8_choices 17 = .ok (.invokevirtual 110, 3) := dk_182 0 110 (dk_at dksX8_choices_0 17 rfl rfl)
theorem dX8_choices_20 : decode cX8_choices 20 = .ok (.bipush 7, 2) := dk_16 7 (dk_at dksX8_choices_0 20 rfl rfl)
theorem dX8_choices_22 : decode cX8_choices 22 = .ok (.if_icmp .ne 7, 3) := dk_160 0 7 (dk_at dksX8_choices_1 0 rfl rfl)
theorem dX8_choices_25 : decode cX8_choices 25 = .ok (.iconst 1, 1) := dk_4 (dk_at dksX8_choices_1 3 rfl rfl)
theorem dX8_choices_26 : decode cX8_choices 26 = .ok (.goto 4, 3) := dk_167 0 4 (dk_at dksX8_choices_1 4 rfl rfl)
theorem dX8_choices_29 : decode cX8_choices 29 = .ok (.iconst 0, 1) := dk_3 (dk_at dksX8_choices_1 7 rfl rfl)
theorem dX8_choices_30 : decode cX8_choices 30 = .ok (.iadd, 1) := dk_96 (dk_at dksX8_choices_1 8 rfl rfl)
theorem dX8_choices_31 : decode cX8_choices 31 = .ok (.istore_n 1, 1) := dk_60 (dk_at dksX8_choices_1 9 rfl rfl)
theorem dX8_choices_32 : decode cX8_choices 32 = .ok (.iinc 2 1, 3) := dk_132 2 1 (dk_at dksX8_choices_1 10 rfl rfl)
theorem dX8_choices_35 : decode cX8_choices 35 = .ok (.goto (-31), 3) := dk_167 255 225 (dk_at dksX8_choices_1 13 rfl rfl)
theorem dX8_choices_38 : decode cX8_choices 38 = .ok (.iload_n 1, 1) := dk_27 (dk_at dksX8_choices_1 16 rfl rfl)
theorem dX8_choices_39 : decode cX8_choices 39 = .ok (.ireturn, 1) := dk_172 (dk_at dksX8_choices_1 17 rfl rfl)
abbrev cX8_isWell : ByteArray := prog_15_method_80_code
def yX8_isWell : MethodName := ⟨RX8, "isWell", "()Z"⟩
def dkwX8_isWell_3 : List UInt8 := [132, 2, 1, 167, 255, 192, 27, 172]
abbrev dktX8_isWell_3 : List UInt8 := dkwX8_isWell_3 ++ []
def dkwX8_isWell_2 : List UInt8 := [96, 29, 96, 46, 96, 46, 28, 160, 0, 7, 4, 167, 0, 4, 3, 60, 132, 3, 1, 167, 255, 205]
abbrev dktX8_isWell_2 : List UInt8 := dkwX8_isWell_2 ++ dktX8_isWell_3
def dkwX8_isWell_1 : List UInt8 := [96, 46, 162, 0, 44, 27, 153, 0, 32, 42, 180, 0, 9, 16, 21, 42, 180, 0, 9, 16, 9, 7, 28, 104]
abbrev dktX8_isWell_1 : List UInt8 := dkwX8_isWell_1 ++ dktX8_isWell_2
def dkwX8_isWell_0 : List UInt8 := [42, 3, 181, 0, 64, 4, 60, 3, 61, 28, 6, 162, 0, 65, 3, 62, 29, 42, 180, 0, 9, 16, 6, 28]
abbrev dktX8_isWell_0 : List UInt8 := dkwX8_isWell_0 ++ dktX8_isWell_1
theorem dksX8_isWell_0 : cX8_isWell.data.toList.drop 0 = dktX8_isWell_0 := by decide +kernel
theorem dksX8_isWell_1 : cX8_isWell.data.toList.drop 24 = dktX8_isWell_1 := dk_seg dksX8_isWell_0 24 rfl rfl
theorem dksX8_isWell_2 : cX8_isWell.data.toList.drop 48 = dktX8_isWell_2 := dk_seg dksX8_isWell_1 24 rfl rfl
theorem dksX8_isWell_3 : cX8_isWell.data.toList.drop 70 = dktX8_isWell_3 := dk_seg dksX8_isWell_2 22 rfl rfl
theorem dX8_isWell_0 : decode cX8_isWell 0 = .ok (.aload_n 0, 1) := dk_42 (dk_at dksX8_isWell_0 0 rfl rfl)
theorem dX8_isWell_1 : decode cX8_isWell 1 = .ok (.iconst 0, 1) := dk_3 (dk_at dksX8_isWell_0 1 rfl rfl)
theorem dX8_isWell_2 : decode cX8_isWell 2 = .ok (.putfield 64, 3) := dk_181 0 64 (dk_at dksX8_isWell_0 2 rfl rfl)
theorem dX8_isWell_5 : decode cX8_isWell 5 = .ok (.iconst 1, 1) := dk_4 (dk_at dksX8_isWell_0 5 rfl rfl)
theorem dX8_isWell_6 : decode cX8_isWell 6 = .ok (.istore_n 1, 1) := dk_60 (dk_at dksX8_isWell_0 6 rfl rfl)
theorem dX8_isWell_7 : decode cX8_isWell 7 = .ok (.iconst 0, 1) := dk_3 (dk_at dksX8_isWell_0 7 rfl rfl)
theorem dX8_isWell_8 : decode cX8_isWell 8 = .ok (.istore_n 2, 1) := dk_61 (dk_at dksX8_isWell_0 8 rfl rfl)
theorem dX8_isWell_9 : decode cX8_isWell 9 = .ok (.iload_n 2, 1) := dk_28 (dk_at dksX8_isWell_0 9 rfl rfl)
theorem dX8_isWell_10 : decode cX8_isWell 10 = .ok (.iconst 3, 1) := dk_6 (dk_at dksX8_isWell_0 10 rfl rfl)
theorem dX8_isWell_11 : decode cX8_isWell 11 = .ok (.if_icmp .ge 65, 3) := dk_162 0 65 (dk_at dksX8_isWell_0 11 rfl rfl)
theorem dX8_isWell_14 : decode cX8_isWell 14 = .ok (.iconst 0, 1) := dk_3 (dk_at dksX8_isWell_0 14 rfl rfl)
theorem dX8_isWell_15 : decode cX8_isWell 15 = .ok (.istore_n 3, 1) := dk_62 (dk_at dksX8_isWell_0 15 rfl rfl)
theorem dX8_isWell_16 : decode cX8_isWell 16 = .ok (.iload_n 3, 1) := dk_29 (dk_at dksX8_isWell_0 16 rfl rfl)
theorem dX8_isWell_17 : decode cX8_isWell 17 = .ok (.aload_n 0, 1) := dk_42 (dk_at dksX8_isWell_0 17 rfl rfl)
theorem dX8_isWell_18 : decode cX8_isWell 18 = .ok (.getfield 9, 3) := dk_180 0 9 (dk_at dksX8_isWell_0 18 rfl rfl)
theorem dX8_isWell_21 : decode cX8_isWell 21 = .ok (.bipush 6, 2) := dk_16 6 (dk_at dksX8_isWell_0 21 rfl rfl)
theorem dX8_isWell_23 : decode cX8_isWell 23 = .ok (.iload_n 2, 1) := dk_28 (dk_at dksX8_isWell_0 23 rfl rfl)
theorem dX8_isWell_24 : decode cX8_isWell 24 = .ok (.iadd, 1) := dk_96 (dk_at dksX8_isWell_1 0 rfl rfl)
theorem dX8_isWell_25 : decode cX8_isWell 25 = .ok (.iaload, 1) := dk_46 (dk_at dksX8_isWell_1 1 rfl rfl)
theorem dX8_isWell_26 : decode cX8_isWell 26 = .ok (.if_icmp .ge 44, 3) := dk_162 0 44 (dk_at dksX8_isWell_1 2 rfl rfl)
theorem dX8_isWell_29 : decode cX8_isWell 29 = .ok (.iload_n 1, 1) := dk_27 (dk_at dksX8_isWell_1 5 rfl rfl)
theorem dX8_isWell_30 : decode cX8_isWell 30 = .ok (.ifCond .eq 32, 3) := dk_153 0 32 (dk_at dksX8_isWell_1 6 rfl rfl)
theorem dX8_isWell_33 : decode cX8_isWell 33 = .ok (.aload_n 0, 1) := dk_42 (dk_at dksX8_isWell_1 9 rfl rfl)
theorem dX8_isWell_34 : decode cX8_isWell 34 = .ok (.getfield 9, 3) := dk_180 0 9 (dk_at dksX8_isWell_1 10 rfl rfl)
theorem dX8_isWell_37 : decode cX8_isWell 37 = .ok (.bipush 21, 2) := dk_16 21 (dk_at dksX8_isWell_1 13 rfl rfl)
theorem dX8_isWell_39 : decode cX8_isWell 39 = .ok (.aload_n 0, 1) := dk_42 (dk_at dksX8_isWell_1 15 rfl rfl)
theorem dX8_isWell_40 : decode cX8_isWell 40 = .ok (.getfield 9, 3) := dk_180 0 9 (dk_at dksX8_isWell_1 16 rfl rfl)
theorem dX8_isWell_43 : decode cX8_isWell 43 = .ok (.bipush 9, 2) := dk_16 9 (dk_at dksX8_isWell_1 19 rfl rfl)
theorem dX8_isWell_45 : decode cX8_isWell 45 = .ok (.iconst 4, 1) := dk_7 (dk_at dksX8_isWell_1 21 rfl rfl)
theorem dX8_isWell_46 : decode cX8_isWell 46 = .ok (.iload_n 2, 1) := dk_28 (dk_at dksX8_isWell_1 22 rfl rfl)
theorem dX8_isWell_47 : decode cX8_isWell 47 = .ok (.imul, 1) := dk_104 (dk_at dksX8_isWell_1 23 rfl rfl)
theorem dX8_isWell_48 : decode cX8_isWell 48 = .ok (.iadd, 1) := dk_96 (dk_at dksX8_isWell_2 0 rfl rfl)
theorem dX8_isWell_49 : decode cX8_isWell 49 = .ok (.iload_n 3, 1) := dk_29 (dk_at dksX8_isWell_2 1 rfl rfl)
theorem dX8_isWell_50 : decode cX8_isWell 50 = .ok (.iadd, 1) := dk_96 (dk_at dksX8_isWell_2 2 rfl rfl)
theorem dX8_isWell_51 : decode cX8_isWell 51 = .ok (.iaload, 1) := dk_46 (dk_at dksX8_isWell_2 3 rfl rfl)
theorem dX8_isWell_52 : decode cX8_isWell 52 = .ok (.iadd, 1) := dk_96 (dk_at dksX8_isWell_2 4 rfl rfl)
theorem dX8_isWell_53 : decode cX8_isWell 53 = .ok (.iaload, 1) := dk_46 (dk_at dksX8_isWell_2 5 rfl rfl)
theorem dX8_isWell_54 : decode cX8_isWell 54 = .ok (.iload_n 2, 1) := dk_28 (dk_at dksX8_isWell_2 6 rfl rfl)
theorem dX8_isWell_55 : decode cX8_isWell 55 = .ok (.if_icmp .ne 7, 3) := dk_160 0 7 (dk_at dksX8_isWell_2 7 rfl rfl)
theorem dX8_isWell_58 : decode cX8_isWell 58 = .ok (.iconst 1, 1) := dk_4 (dk_at dksX8_isWell_2 10 rfl rfl)
theorem dX8_isWell_59 : decode cX8_isWell 59 = .ok (.goto 4, 3) := dk_167 0 4 (dk_at dksX8_isWell_2 11 rfl rfl)
theorem dX8_isWell_62 : decode cX8_isWell 62 = .ok (.iconst 0, 1) := dk_3 (dk_at dksX8_isWell_2 14 rfl rfl)
theorem dX8_isWell_63 : decode cX8_isWell 63 = .ok (.istore_n 1, 1) := dk_60 (dk_at dksX8_isWell_2 15 rfl rfl)
theorem dX8_isWell_64 : decode cX8_isWell 64 = .ok (.iinc 3 1, 3) := dk_132 3 1 (dk_at dksX8_isWell_2 16 rfl rfl)
theorem dX8_isWell_67 : decode cX8_isWell 67 = .ok (.goto (-51), 3) := dk_167 255 205 (dk_at dksX8_isWell_2 19 rfl rfl)
theorem dX8_isWell_70 : decode cX8_isWell 70 = .ok (.iinc 2 1, 3) := dk_132 2 1 (dk_at dksX8_isWell_3 0 rfl rfl)
theorem dX8_isWell_73 : decode cX8_isWell 73 = .ok (.goto (-64), 3) := dk_167 255 192 (dk_at dksX8_isWell_3 3 rfl rfl)
theorem dX8_isWell_76 : decode cX8_isWell 76 = .ok (.iload_n 1, 1) := dk_27 (dk_at dksX8_isWell_3 6 rfl rfl)
theorem dX8_isWell_77 : decode cX8_isWell 77 = .ok (.ireturn, 1) := dk_172 (dk_at dksX8_isWell_3 7 rfl rfl)
abbrev cX8_meanWorth : ByteArray := prog_15_method_81_code
def yX8_meanWorth : MethodName := ⟨RX8, "meanWorth", "()D"⟩
def dkwX8_meanWorth_1 : List UInt8 := [158, 0, 7, 14, 167, 0, 16, 42, 182, 1, 35, 135, 42, 180, 0, 9, 3, 46, 135, 111, 175]
abbrev dktX8_meanWorth_1 : List UInt8 := dkwX8_meanWorth_1 ++ []
def dkwX8_meanWorth_0 : List UInt8 := [42, 42, 180, 0, 9, 3, 46, 154, 0, 7, 4, 167, 0, 4, 3, 181, 0, 64, 42, 180, 0, 64]
abbrev dktX8_meanWorth_0 : List UInt8 := dkwX8_meanWorth_0 ++ dktX8_meanWorth_1
theorem dksX8_meanWorth_0 : cX8_meanWorth.data.toList.drop 0 = dktX8_meanWorth_0 := by decide +kernel
theorem dksX8_meanWorth_1 : cX8_meanWorth.data.toList.drop 22 = dktX8_meanWorth_1 := dk_seg dksX8_meanWorth_0 22 rfl rfl
theorem dX8_meanWorth_0 : decode cX8_meanWorth 0 = .ok (.aload_n 0, 1) := dk_42 (dk_at dksX8_meanWorth_0 0 rfl rfl)
theorem dX8_meanWorth_1 : decode cX8_meanWorth 1 = .ok (.aload_n 0, 1) := dk_42 (dk_at dksX8_meanWorth_0 1 rfl rfl)
theorem dX8_meanWorth_2 : decode cX8_meanWorth 2 = .ok (.getfield 9, 3) := dk_180 0 9 (dk_at dksX8_meanWorth_0 2 rfl rfl)
theorem dX8_meanWorth_5 : decode cX8_meanWorth 5 = .ok (.iconst 0, 1) := dk_3 (dk_at dksX8_meanWorth_0 5 rfl rfl)
theorem dX8_meanWorth_6 : decode cX8_meanWorth 6 = .ok (.iaload, 1) := dk_46 (dk_at dksX8_meanWorth_0 6 rfl rfl)
theorem dX8_meanWorth_7 : decode cX8_meanWorth 7 = .ok (.ifCond .ne 7, 3) := dk_154 0 7 (dk_at dksX8_meanWorth_0 7 rfl rfl)
theorem dX8_meanWorth_10 : decode cX8_meanWorth 10 = .ok (.iconst 1, 1) := dk_4 (dk_at dksX8_meanWorth_0 10 rfl rfl)
theorem dX8_meanWorth_11 : decode cX8_meanWorth 11 = .ok (.goto 4, 3) := dk_167 0 4 (dk_at dksX8_meanWorth_0 11 rfl rfl)
theorem dX8_meanWorth_14 : decode cX8_meanWorth 14 = .ok (.iconst 0, 1) := dk_3 (dk_at dksX8_meanWorth_0 14 rfl rfl)
theorem dX8_meanWorth_15 : decode cX8_meanWorth 15 = .ok (.putfield 64, 3) := dk_181 0 64 (dk_at dksX8_meanWorth_0 15 rfl rfl)
theorem dX8_meanWorth_18 : decode cX8_meanWorth 18 = .ok (.aload_n 0, 1) := dk_42 (dk_at dksX8_meanWorth_0 18 rfl rfl)
theorem dX8_meanWorth_19 : decode cX8_meanWorth 19 = .ok (.getfield 64, 3) := dk_180 0 64 (dk_at dksX8_meanWorth_0 19 rfl rfl)
theorem dX8_meanWorth_22 : decode cX8_meanWorth 22 = .ok (.ifCond .le 7, 3) := dk_158 0 7 (dk_at dksX8_meanWorth_1 0 rfl rfl)
theorem dX8_meanWorth_25 : decode cX8_meanWorth 25 = .ok (.dconst 0, 1) := dk_14 (dk_at dksX8_meanWorth_1 3 rfl rfl)
theorem dX8_meanWorth_26 : decode cX8_meanWorth 26 = .ok (.goto 16, 3) := dk_167 0 16 (dk_at dksX8_meanWorth_1 4 rfl rfl)
theorem dX8_meanWorth_29 : decode cX8_meanWorth 29 = .ok (.aload_n 0, 1) := dk_42 (dk_at dksX8_meanWorth_1 7 rfl rfl)
theorem dX8_meanWorth_30 : decode cX8_meanWorth 30 = .ok (.invokevirtual 291, 3) := dk_182 1 35 (dk_at dksX8_meanWorth_1 8 rfl rfl)
theorem dX8_meanWorth_33 : decode cX8_meanWorth 33 = .ok (.i2d, 1) := dk_135 (dk_at dksX8_meanWorth_1 11 rfl rfl)
theorem dX8_meanWorth_34 : decode cX8_meanWorth 34 = .ok (.aload_n 0, 1) := dk_42 (dk_at dksX8_meanWorth_1 12 rfl rfl)
theorem dX8_meanWorth_35 : decode cX8_meanWorth 35 = .ok (.getfield 9, 3) := dk_180 0 9 (dk_at dksX8_meanWorth_1 13 rfl rfl)
theorem dX8_meanWorth_38 : decode cX8_meanWorth 38 = .ok (.iconst 0, 1) := dk_3 (dk_at dksX8_meanWorth_1 16 rfl rfl)
theorem dX8_meanWorth_39 : decode cX8_meanWorth 39 = .ok (.iaload, 1) := dk_46 (dk_at dksX8_meanWorth_1 17 rfl rfl)
theorem dX8_meanWorth_40 : decode cX8_meanWorth 40 = .ok (.i2d, 1) := dk_135 (dk_at dksX8_meanWorth_1 18 rfl rfl)
theorem dX8_meanWorth_41 : decode cX8_meanWorth 41 = .ok (.ddiv, 1) := dk_111 (dk_at dksX8_meanWorth_1 19 rfl rfl)
theorem dX8_meanWorth_42 : decode cX8_meanWorth 42 = .ok (.dreturn, 1) := dk_175 (dk_at dksX8_meanWorth_1 20 rfl rfl)
abbrev cX8_undo : ByteArray := prog_15_method_82_code
def yX8_undo : MethodName := ⟨RX8, "undo", "()I"⟩
def dkwX8_undo_2 : List UInt8 := [180, 0, 9, 3, 16, 109, 184, 0, 67, 42, 180, 0, 73, 172]
abbrev dktX8_undo_2 : List UInt8 := dkwX8_undo_2 ++ []
def dkwX8_undo_1 : List UInt8 := [172, 42, 89, 180, 0, 73, 4, 100, 181, 0, 73, 42, 180, 0, 19, 16, 109, 42, 180, 0, 73, 104, 42]
abbrev dktX8_undo_1 : List UInt8 := dkwX8_undo_1 ++ dktX8_undo_2
def dkwX8_undo_0 : List UInt8 := [42, 42, 180, 0, 73, 154, 0, 7, 4, 167, 0, 4, 3, 181, 0, 64, 42, 180, 0, 64, 158, 0, 5, 3]
abbrev dktX8_undo_0 : List UInt8 := dkwX8_undo_0 ++ dktX8_undo_1
theorem dksX8_undo_0 : cX8_undo.data.toList.drop 0 = dktX8_undo_0 := by decide +kernel
theorem dksX8_undo_1 : cX8_undo.data.toList.drop 24 = dktX8_undo_1 := dk_seg dksX8_undo_0 24 rfl rfl
theorem dksX8_undo_2 : cX8_undo.data.toList.drop 47 = dktX8_undo_2 := dk_seg dksX8_undo_1 23 rfl rfl
theorem dX8_undo_0 : decode cX8_undo 0 = .ok (.aload_n 0, 1) := dk_42 (dk_at dksX8_undo_0 0 rfl rfl)
theorem dX8_undo_1 : decode cX8_undo 1 = .ok (.aload_n 0, 1) := dk_42 (dk_at dksX8_undo_0 1 rfl rfl)
theorem dX8_undo_2 : decode cX8_undo 2 = .ok (.getfield 73, 3) := dk_180 0 73 (dk_at dksX8_undo_0 2 rfl rfl)
theorem dX8_undo_5 : decode cX8_undo 5 = .ok (.ifCond .ne 7, 3) := dk_154 0 7 (dk_at dksX8_undo_0 5 rfl rfl)
theorem dX8_undo_8 : decode cX8_undo 8 = .ok (.iconst 1, 1) := dk_4 (dk_at dksX8_undo_0 8 rfl rfl)
theorem dX8_undo_9 : decode cX8_undo 9 = .ok (.goto 4, 3) := dk_167 0 4 (dk_at dksX8_undo_0 9 rfl rfl)
theorem dX8_undo_12 : decode cX8_undo 12 = .ok (.iconst 0, 1) := dk_3 (dk_at dksX8_undo_0 12 rfl rfl)
theorem dX8_undo_13 : decode cX8_undo 13 = .ok (.putfield 64, 3) := dk_181 0 64 (dk_at dksX8_undo_0 13 rfl rfl)
theorem dX8_undo_16 : decode cX8_undo 16 = .ok (.aload_n 0, 1) := dk_42 (dk_at dksX8_undo_0 16 rfl rfl)
theorem dX8_undo_17 : decode cX8_undo 17 = .ok (.getfield 64, 3) := dk_180 0 64 (dk_at dksX8_undo_0 17 rfl rfl)
theorem dX8_undo_20 : decode cX8_undo 20 = .ok (.ifCond .le 5, 3) := dk_158 0 5 (dk_at dksX8_undo_0 20 rfl rfl)
theorem dX8_undo_23 : decode cX8_undo 23 = .ok (.iconst 0, 1) := dk_3 (dk_at dksX8_undo_0 23 rfl rfl)
theorem dX8_undo_24 : decode cX8_undo 24 = .ok (.ireturn, 1) := dk_172 (dk_at dksX8_undo_1 0 rfl rfl)
theorem dX8_undo_25 : decode cX8_undo 25 = .ok (.aload_n 0, 1) := dk_42 (dk_at dksX8_undo_1 1 rfl rfl)
theorem dX8_undo_26 : decode cX8_undo 26 = .ok (.dup, 1) := dk_89 (dk_at dksX8_undo_1 2 rfl rfl)
theorem dX8_undo_27 : decode cX8_undo 27 = .ok (.getfield 73, 3) := dk_180 0 73 (dk_at dksX8_undo_1 3 rfl rfl)
theorem dX8_undo_30 : decode cX8_undo 30 = .ok (.iconst 1, 1) := dk_4 (dk_at dksX8_undo_1 6 rfl rfl)
theorem dX8_undo_31 : decode cX8_undo 31 = .ok (.isub, 1) := dk_100 (dk_at dksX8_undo_1 7 rfl rfl)
theorem dX8_undo_32 : decode cX8_undo 32 = .ok (.putfield 73, 3) := dk_181 0 73 (dk_at dksX8_undo_1 8 rfl rfl)
theorem dX8_undo_35 : decode cX8_undo 35 = .ok (.aload_n 0, 1) := dk_42 (dk_at dksX8_undo_1 11 rfl rfl)
theorem dX8_undo_36 : decode cX8_undo 36 = .ok (.getfield 19, 3) := dk_180 0 19 (dk_at dksX8_undo_1 12 rfl rfl)
theorem dX8_undo_39 : decode cX8_undo 39 = .ok (.bipush 109, 2) := dk_16 109 (dk_at dksX8_undo_1 15 rfl rfl)
theorem dX8_undo_41 : decode cX8_undo 41 = .ok (.aload_n 0, 1) := dk_42 (dk_at dksX8_undo_1 17 rfl rfl)
theorem dX8_undo_42 : decode cX8_undo 42 = .ok (.getfield 73, 3) := dk_180 0 73 (dk_at dksX8_undo_1 18 rfl rfl)
theorem dX8_undo_45 : decode cX8_undo 45 = .ok (.imul, 1) := dk_104 (dk_at dksX8_undo_1 21 rfl rfl)
theorem dX8_undo_46 : decode cX8_undo 46 = .ok (.aload_n 0, 1) := dk_42 (dk_at dksX8_undo_1 22 rfl rfl)
theorem dX8_undo_47 : decode cX8_undo 47 = .ok (.getfield 9, 3) := dk_180 0 9 (dk_at dksX8_undo_2 0 rfl rfl)
theorem dX8_undo_50 : decode cX8_undo 50 = .ok (.iconst 0, 1) := dk_3 (dk_at dksX8_undo_2 3 rfl rfl)
theorem dX8_undo_51 : decode cX8_undo 51 = .ok (.bipush 109, 2) := dk_16 109 (dk_at dksX8_undo_2 4 rfl rfl)
theorem dX8_undo_53 : decode cX8_undo 53 = .ok (.invokestatic 67, 3) := dk_184 0 67 (dk_at dksX8_undo_2 6 rfl rfl)
theorem dX8_undo_56 : decode cX8_undo 56 = .ok (.aload_n 0, 1) := dk_42 (dk_at dksX8_undo_2 9 rfl rfl)
theorem dX8_undo_57 : decode cX8_undo 57 = .ok (.getfield 73, 3) := dk_180 0 73 (dk_at dksX8_undo_2 10 rfl rfl)
theorem dX8_undo_60 : decode cX8_undo 60 = .ok (.ireturn, 1) := dk_172 (dk_at dksX8_undo_2 13 rfl rfl)
abbrev cX8_save : ByteArray := prog_15_method_83_code
def yX8_save : MethodName := ⟨RX8, "save", "()I"⟩
def dkwX8_save_1 : List UInt8 := [181, 1, 41, 42, 180, 0, 9, 4, 46, 172]
abbrev dktX8_save_1 : List UInt8 := dkwX8_save_1 ++ []
def dkwX8_save_0 : List UInt8 := [42, 3, 181, 0, 64, 42, 180, 0, 9, 3, 42, 180, 0, 16, 3, 16, 109, 184, 0, 67, 42, 4]
abbrev dktX8_save_0 : List UInt8 := dkwX8_save_0 ++ dktX8_save_1
theorem dksX8_save_0 : cX8_save.data.toList.drop 0 = dktX8_save_0 := by decide +kernel
theorem dksX8_save_1 : cX8_save.data.toList.drop 22 = dktX8_save_1 := dk_seg dksX8_save_0 22 rfl rfl
theorem dX8_save_0 : decode cX8_save 0 = .ok (.aload_n 0, 1) := dk_42 (dk_at dksX8_save_0 0 rfl rfl)
theorem dX8_save_1 : decode cX8_save 1 = .ok (.iconst 0, 1) := dk_3 (dk_at dksX8_save_0 1 rfl rfl)
theorem dX8_save_2 : decode cX8_save 2 = .ok (.putfield 64, 3) := dk_181 0 64 (dk_at dksX8_save_0 2 rfl rfl)
theorem dX8_save_5 : decode cX8_save 5 = .ok (.aload_n 0, 1) := dk_42 (dk_at dksX8_save_0 5 rfl rfl)
theorem dX8_save_6 : decode cX8_save 6 = .ok (.getfield 9, 3) := dk_180 0 9 (dk_at dksX8_save_0 6 rfl rfl)
theorem dX8_save_9 : decode cX8_save 9 = .ok (.iconst 0, 1) := dk_3 (dk_at dksX8_save_0 9 rfl rfl)
theorem dX8_save_10 : decode cX8_save 10 = .ok (.aload_n 0, 1) := dk_42 (dk_at dksX8_save_0 10 rfl rfl)
theorem dX8_save_11 : decode cX8_save 11 = .ok (.getfield 16, 3) := dk_180 0 16 (dk_at dksX8_save_0 11 rfl rfl)
theorem dX8_save_14 : decode cX8_save 14 = .ok (.iconst 0, 1) := dk_3 (dk_at dksX8_save_0 14 rfl rfl)
theorem dX8_save_15 : decode cX8_save 15 = .ok (.bipush 109, 2) := dk_16 109 (dk_at dksX8_save_0 15 rfl rfl)
theorem dX8_save_17 : decode cX8_save 17 = .ok (.invokestatic 67, 3) := dk_184 0 67 (dk_at dksX8_save_0 17 rfl rfl)
theorem dX8_save_20 : decode cX8_save 20 = .ok (.aload_n 0, 1) := dk_42 (dk_at dksX8_save_0 20 rfl rfl)
theorem dX8_save_21 : decode cX8_save 21 = .ok (.iconst 1, 1) := dk_4 (dk_at dksX8_save_0 21 rfl rfl)
theorem dX8_save_22 : decode cX8_save 22 = .ok (.putfield 297, 3) := dk_181 1 41 (dk_at dksX8_save_1 0 rfl rfl)
theorem dX8_save_25 : decode cX8_save 25 = .ok (.aload_n 0, 1) := dk_42 (dk_at dksX8_save_1 3 rfl rfl)
theorem dX8_save_26 : decode cX8_save 26 = .ok (.getfield 9, 3) := dk_180 0 9 (dk_at dksX8_save_1 4 rfl rfl)
theorem dX8_save_29 : decode cX8_save 29 = .ok (.iconst 1, 1) := dk_4 (dk_at dksX8_save_1 7 rfl rfl)
theorem dX8_save_30 : decode cX8_save 30 = .ok (.iaload, 1) := dk_46 (dk_at dksX8_save_1 8 rfl rfl)
theorem dX8_save_31 : decode cX8_save 31 = .ok (.ireturn, 1) := dk_172 (dk_at dksX8_save_1 9 rfl rfl)
abbrev cX8_restore : ByteArray := prog_15_method_84_code
def yX8_restore : MethodName := ⟨RX8, "restore", "()I"⟩
def dkwX8_restore_2 : List UInt8 := [180, 0, 9, 4, 46, 172]
abbrev dktX8_restore_2 : List UInt8 := dkwX8_restore_2 ++ []
def dkwX8_restore_1 : List UInt8 := [172, 42, 180, 0, 16, 3, 42, 180, 0, 9, 3, 16, 109, 184, 0, 67, 42, 3, 181, 0, 73, 42]
abbrev dktX8_restore_1 : List UInt8 := dkwX8_restore_1 ++ dktX8_restore_2
def dkwX8_restore_0 : List UInt8 := [42, 42, 180, 1, 41, 153, 0, 7, 3, 167, 0, 4, 4, 181, 0, 64, 42, 180, 0, 64, 158, 0, 5, 3]
abbrev dktX8_restore_0 : List UInt8 := dkwX8_restore_0 ++ dktX8_restore_1
theorem dksX8_restore_0 : cX8_restore.data.toList.drop 0 = dktX8_restore_0 := by decide +kernel
theorem dksX8_restore_1 : cX8_restore.data.toList.drop 24 = dktX8_restore_1 := dk_seg dksX8_restore_0 24 rfl rfl
theorem dksX8_restore_2 : cX8_restore.data.toList.drop 46 = dktX8_restore_2 := dk_seg dksX8_restore_1 22 rfl rfl
theorem dX8_restore_0 : decode cX8_restore 0 = .ok (.aload_n 0, 1) := dk_42 (dk_at dksX8_restore_0 0 rfl rfl)
theorem dX8_restore_1 : decode cX8_restore 1 = .ok (.aload_n 0, 1) := dk_42 (dk_at dksX8_restore_0 1 rfl rfl)
theorem dX8_restore_2 : decode cX8_restore 2 = .ok (.getfield 297, 3) := dk_180 1 41 (dk_at dksX8_restore_0 2 rfl rfl)
theorem dX8_restore_5 : decode cX8_restore 5 = .ok (.ifCond .eq 7, 3) := dk_153 0 7 (dk_at dksX8_restore_0 5 rfl rfl)
theorem dX8_restore_8 : decode cX8_restore 8 = .ok (.iconst 0, 1) := dk_3 (dk_at dksX8_restore_0 8 rfl rfl)
theorem dX8_restore_9 : decode cX8_restore 9 = .ok (.goto 4, 3) := dk_167 0 4 (dk_at dksX8_restore_0 9 rfl rfl)
theorem dX8_restore_12 : decode cX8_restore 12 = .ok (.iconst 1, 1) := dk_4 (dk_at dksX8_restore_0 12 rfl rfl)
theorem dX8_restore_13 : decode cX8_restore 13 = .ok (.putfield 64, 3) := dk_181 0 64 (dk_at dksX8_restore_0 13 rfl rfl)
theorem dX8_restore_16 : decode cX8_restore 16 = .ok (.aload_n 0, 1) := dk_42 (dk_at dksX8_restore_0 16 rfl rfl)
theorem dX8_restore_17 : decode cX8_restore 17 = .ok (.getfield 64, 3) := dk_180 0 64 (dk_at dksX8_restore_0 17 rfl rfl)
theorem dX8_restore_20 : decode cX8_restore 20 = .ok (.ifCond .le 5, 3) := dk_158 0 5 (dk_at dksX8_restore_0 20 rfl rfl)
theorem dX8_restore_23 : decode cX8_restore 23 = .ok (.iconst 0, 1) := dk_3 (dk_at dksX8_restore_0 23 rfl rfl)
theorem dX8_restore_24 : decode cX8_restore 24 = .ok (.ireturn, 1) := dk_172 (dk_at dksX8_restore_1 0 rfl rfl)
theorem dX8_restore_25 : decode cX8_restore 25 = .ok (.aload_n 0, 1) := dk_42 (dk_at dksX8_restore_1 1 rfl rfl)
theorem dX8_restore_26 : decode cX8_restore 26 = .ok (.getfield 16, 3) := dk_180 0 16 (dk_at dksX8_restore_1 2 rfl rfl)
theorem dX8_restore_29 : decode cX8_restore 29 = .ok (.iconst 0, 1) := dk_3 (dk_at dksX8_restore_1 5 rfl rfl)
theorem dX8_restore_30 : decode cX8_restore 30 = .ok (.aload_n 0, 1) := dk_42 (dk_at dksX8_restore_1 6 rfl rfl)
theorem dX8_restore_31 : decode cX8_restore 31 = .ok (.getfield 9, 3) := dk_180 0 9 (dk_at dksX8_restore_1 7 rfl rfl)
theorem dX8_restore_34 : decode cX8_restore 34 = .ok (.iconst 0, 1) := dk_3 (dk_at dksX8_restore_1 10 rfl rfl)
theorem dX8_restore_35 : decode cX8_restore 35 = .ok (.bipush 109, 2) := dk_16 109 (dk_at dksX8_restore_1 11 rfl rfl)
theorem dX8_restore_37 : decode cX8_restore 37 = .ok (.invokestatic 67, 3) := dk_184 0 67 (dk_at dksX8_restore_1 13 rfl rfl)
theorem dX8_restore_40 : decode cX8_restore 40 = .ok (.aload_n 0, 1) := dk_42 (dk_at dksX8_restore_1 16 rfl rfl)
theorem dX8_restore_41 : decode cX8_restore 41 = .ok (.iconst 0, 1) := dk_3 (dk_at dksX8_restore_1 17 rfl rfl)
theorem dX8_restore_42 : decode cX8_restore 42 = .ok (.putfield 73, 3) := dk_181 0 73 (dk_at dksX8_restore_1 18 rfl rfl)
theorem dX8_restore_45 : decode cX8_restore 45 = .ok (.aload_n 0, 1) := dk_42 (dk_at dksX8_restore_1 21 rfl rfl)
theorem dX8_restore_46 : decode cX8_restore 46 = .ok (.getfield 9, 3) := dk_180 0 9 (dk_at dksX8_restore_2 0 rfl rfl)
theorem dX8_restore_49 : decode cX8_restore 49 = .ok (.iconst 1, 1) := dk_4 (dk_at dksX8_restore_2 3 rfl rfl)
theorem dX8_restore_50 : decode cX8_restore 50 = .ok (.iaload, 1) := dk_46 (dk_at dksX8_restore_2 4 rfl rfl)
theorem dX8_restore_51 : decode cX8_restore 51 = .ok (.ireturn, 1) := dk_172 (dk_at dksX8_restore_2 5 rfl rfl)
theorem q96 : (Jvm.Cond.initialized "PloughWillsModel") ∈ lw_all := lw_g (lw_at lw_m1 21 rfl) rfl
theorem q516 : (Jvm.Cond.selects "PloughWillsModel" ({ cls := "java/lang/Object", name := "getClass", desc := "()Ljava/lang/Class;" } : Jvm.MethodName) ({ cls := "java/lang/Object", name := "getClass", desc := "()Ljava/lang/Class;" } : Jvm.MethodName)) ∈ lw_all := lw_g (lw_at lw_m2 201 rfl) rfl
theorem q1720 : (Jvm.Cond.instantiable "PloughWillsModel" (31 : Nat)) ∈ lw_all := lw_g (lw_at lw_m7 205 rfl) rfl
theorem q1722 : (Jvm.Cond.instanceMethod ({ cls := "PloughWillsModel", name := "<init>", desc := "()V" } : Jvm.MethodName)) ∈ lw_all := lw_g (lw_at lw_m7 207 rfl) rfl
theorem q1723 : (Jvm.Cond.code ({ cls := "PloughWillsModel", name := "<init>", desc := "()V" } : Jvm.MethodName) prog_15_method_1_code (2 : Nat) (Option.none : Option Jvm.ClassFile.FieldType)) ∈ lw_all := lw_g (lw_at lw_m7 208 rfl) rfl
theorem q1724 : (Jvm.Cond.methodLink "PloughWillsModel" (3 : Nat) ({ cls := "java/lang/Object", name := "<init>", desc := "()V" } : Jvm.MethodName)) ∈ lw_all := lw_g (lw_at lw_m7 209 rfl) rfl
theorem q1725 : (Jvm.Cond.fieldLink "PloughWillsModel" (9 : Nat) "PloughWillsModel" "s" "[I") ∈ lw_all := lw_g (lw_at lw_m7 210 rfl) rfl
theorem q1726 : (Jvm.Cond.fieldLink "PloughWillsModel" (13 : Nat) "PloughWillsModel" "before" "[I") ∈ lw_all := lw_g (lw_at lw_m7 211 rfl) rfl
theorem q1727 : (Jvm.Cond.fieldLink "PloughWillsModel" (16 : Nat) "PloughWillsModel" "saved" "[I") ∈ lw_all := lw_g (lw_at lw_m7 212 rfl) rfl
theorem q1728 : (Jvm.Cond.fieldLink "PloughWillsModel" (297 : Nat) "PloughWillsModel" "isSaved" "Z") ∈ lw_all := lw_g (lw_at lw_m7 213 rfl) rfl
theorem q1729 : (Jvm.Cond.fieldLink "PloughWillsModel" (19 : Nat) "PloughWillsModel" "past" "[I") ∈ lw_all := lw_g (lw_at lw_m7 214 rfl) rfl
theorem q1730 : (Jvm.Cond.fieldLink "PloughWillsModel" (73 : Nat) "PloughWillsModel" "pastMany" "I") ∈ lw_all := lw_g (lw_at lw_m7 215 rfl) rfl
theorem q1731 : (Jvm.Cond.fieldLink "PloughWillsModel" (64 : Nat) "PloughWillsModel" "thrown" "I") ∈ lw_all := lw_g (lw_at lw_m7 216 rfl) rfl
theorem q1732 : (Jvm.Cond.fieldLink "PloughWillsModel" (76 : Nat) "PloughWillsModel" "reason" "I") ∈ lw_all := lw_g (lw_at lw_m7 217 rfl) rfl
theorem q1733 : (Jvm.Cond.fieldLink "PloughWillsModel" (79 : Nat) "PloughWillsModel" "detail" "I") ∈ lw_all := lw_g (lw_at lw_m7 218 rfl) rfl
theorem q1734 : (Jvm.Cond.fieldLink "PloughWillsModel" (22 : Nat) "PloughWillsModel" "open" "[I") ∈ lw_all := lw_g (lw_at lw_m7 219 rfl) rfl
theorem q1735 : (Jvm.Cond.fieldLink "PloughWillsModel" (25 : Nat) "PloughWillsModel" "begun" "[I") ∈ lw_all := lw_g (lw_at lw_m7 220 rfl) rfl
theorem q1736 : (Jvm.Cond.fieldLink "PloughWillsModel" (28 : Nat) "PloughWillsModel" "around" "[I") ∈ lw_all := lw_g (lw_at lw_m7 221 rfl) rfl
theorem q1737 : (Jvm.Cond.fieldLink "PloughWillsModel" (31 : Nat) "PloughWillsModel" "middle" "[I") ∈ lw_all := lw_g (lw_at lw_m7 222 rfl) rfl
theorem q1738 : (Jvm.Cond.fieldLink "PloughWillsModel" (34 : Nat) "PloughWillsModel" "end" "[I") ∈ lw_all := lw_g (lw_at lw_m7 223 rfl) rfl
theorem q1739 : (Jvm.Cond.fieldLink "PloughWillsModel" (160 : Nat) "PloughWillsModel" "deepest" "I") ∈ lw_all := lw_g (lw_at lw_m7 224 rfl) rfl
theorem q1740 : (Jvm.Cond.fieldLink "PloughWillsModel" (37 : Nat) "PloughWillsModel" "so" "[I") ∈ lw_all := lw_g (lw_at lw_m7 225 rfl) rfl
theorem q1741 : (Jvm.Cond.fieldLink "PloughWillsModel" (40 : Nat) "PloughWillsModel" "starts" "[I") ∈ lw_all := lw_g (lw_at lw_m7 226 rfl) rfl
theorem q1742 : (Jvm.Cond.fieldLink "PloughWillsModel" (43 : Nat) "PloughWillsModel" "firsts" "[I") ∈ lw_all := lw_g (lw_at lw_m7 227 rfl) rfl
theorem q1743 : (Jvm.Cond.fieldLink "PloughWillsModel" (173 : Nat) "PloughWillsModel" "deep" "I") ∈ lw_all := lw_g (lw_at lw_m7 228 rfl) rfl
theorem q1744 : (Jvm.Cond.fieldLink "PloughWillsModel" (176 : Nat) "PloughWillsModel" "wrongReason" "I") ∈ lw_all := lw_g (lw_at lw_m7 229 rfl) rfl
theorem q1745 : (Jvm.Cond.fieldLink "PloughWillsModel" (179 : Nat) "PloughWillsModel" "wrongPlace" "I") ∈ lw_all := lw_g (lw_at lw_m7 230 rfl) rfl
theorem q1746 : (Jvm.Cond.fieldLink "PloughWillsModel" (182 : Nat) "PloughWillsModel" "wrongDetail" "I") ∈ lw_all := lw_g (lw_at lw_m7 231 rfl) rfl
theorem q1747 : (Jvm.Cond.fieldLink "PloughWillsModel" (46 : Nat) "PloughWillsModel" "isOn" "[Z") ∈ lw_all := lw_g (lw_at lw_m7 232 rfl) rfl
theorem q1748 : (Jvm.Cond.fieldLink "PloughWillsModel" (235 : Nat) "PloughWillsModel" "choicesMet" "I") ∈ lw_all := lw_g (lw_at lw_m7 233 rfl) rfl
theorem q1749 : (Jvm.Cond.fieldLink "PloughWillsModel" (238 : Nat) "PloughWillsModel" "left" "I") ∈ lw_all := lw_g (lw_at lw_m7 234 rfl) rfl
theorem q1750 : (Jvm.Cond.fieldLink "PloughWillsModel" (50 : Nat) "PloughWillsModel" "line" "[C") ∈ lw_all := lw_g (lw_at lw_m7 235 rfl) rfl
theorem q1751 : (Jvm.Cond.fieldLink "PloughWillsModel" (266 : Nat) "PloughWillsModel" "lineMany" "I") ∈ lw_all := lw_g (lw_at lw_m7 236 rfl) rfl
theorem q1752 : (Jvm.Cond.fieldLink "PloughWillsModel" (54 : Nat) "PloughWillsModel" "text" "[C") ∈ lw_all := lw_g (lw_at lw_m7 237 rfl) rfl
theorem q1753 : (Jvm.Cond.fieldLink "PloughWillsModel" (281 : Nat) "PloughWillsModel" "length" "I") ∈ lw_all := lw_g (lw_at lw_m7 238 rfl) rfl
theorem q1754 : (Jvm.Cond.fieldLink "PloughWillsModel" (57 : Nat) "PloughWillsModel" "error" "I") ∈ lw_all := lw_g (lw_at lw_m7 239 rfl) rfl
theorem q1755 : (Jvm.Cond.fieldLink "PloughWillsModel" (61 : Nat) "PloughWillsModel" "told" "[I") ∈ lw_all := lw_g (lw_at lw_m8 0 rfl) rfl
theorem q1756 : (Jvm.Cond.laysFinal "PloughWillsModel" "PloughWillsModel" "s" "[I") ∈ lw_all := lw_g (lw_at lw_m8 1 rfl) rfl
theorem q1757 : (Jvm.Cond.soleField "PloughWillsModel" "s") ∈ lw_all := lw_g (lw_at lw_m8 2 rfl) rfl
theorem q1758 : (Jvm.Cond.laysFinal "PloughWillsModel" "PloughWillsModel" "before" "[I") ∈ lw_all := lw_g (lw_at lw_m8 3 rfl) rfl
theorem q1759 : (Jvm.Cond.soleField "PloughWillsModel" "before") ∈ lw_all := lw_g (lw_at lw_m8 4 rfl) rfl
theorem q1760 : (Jvm.Cond.laysFinal "PloughWillsModel" "PloughWillsModel" "saved" "[I") ∈ lw_all := lw_g (lw_at lw_m8 5 rfl) rfl
theorem q1761 : (Jvm.Cond.soleField "PloughWillsModel" "saved") ∈ lw_all := lw_g (lw_at lw_m8 6 rfl) rfl
theorem q1762 : (Jvm.Cond.lays "PloughWillsModel" "PloughWillsModel" "isSaved" "Z") ∈ lw_all := lw_g (lw_at lw_m8 7 rfl) rfl
theorem q1763 : (Jvm.Cond.soleField "PloughWillsModel" "isSaved") ∈ lw_all := lw_g (lw_at lw_m8 8 rfl) rfl
theorem q1764 : (Jvm.Cond.laysFinal "PloughWillsModel" "PloughWillsModel" "past" "[I") ∈ lw_all := lw_g (lw_at lw_m8 9 rfl) rfl
theorem q1765 : (Jvm.Cond.soleField "PloughWillsModel" "past") ∈ lw_all := lw_g (lw_at lw_m8 10 rfl) rfl
theorem q1766 : (Jvm.Cond.lays "PloughWillsModel" "PloughWillsModel" "pastMany" "I") ∈ lw_all := lw_g (lw_at lw_m8 11 rfl) rfl
theorem q1767 : (Jvm.Cond.soleField "PloughWillsModel" "pastMany") ∈ lw_all := lw_g (lw_at lw_m8 12 rfl) rfl
theorem q1768 : (Jvm.Cond.lays "PloughWillsModel" "PloughWillsModel" "thrown" "I") ∈ lw_all := lw_g (lw_at lw_m8 13 rfl) rfl
theorem q1769 : (Jvm.Cond.soleField "PloughWillsModel" "thrown") ∈ lw_all := lw_g (lw_at lw_m8 14 rfl) rfl
theorem q1770 : (Jvm.Cond.lays "PloughWillsModel" "PloughWillsModel" "reason" "I") ∈ lw_all := lw_g (lw_at lw_m8 15 rfl) rfl
theorem q1771 : (Jvm.Cond.soleField "PloughWillsModel" "reason") ∈ lw_all := lw_g (lw_at lw_m8 16 rfl) rfl
theorem q1772 : (Jvm.Cond.lays "PloughWillsModel" "PloughWillsModel" "detail" "I") ∈ lw_all := lw_g (lw_at lw_m8 17 rfl) rfl
theorem q1773 : (Jvm.Cond.soleField "PloughWillsModel" "detail") ∈ lw_all := lw_g (lw_at lw_m8 18 rfl) rfl
theorem q1774 : (Jvm.Cond.laysFinal "PloughWillsModel" "PloughWillsModel" "open" "[I") ∈ lw_all := lw_g (lw_at lw_m8 19 rfl) rfl
theorem q1775 : (Jvm.Cond.soleField "PloughWillsModel" "open") ∈ lw_all := lw_g (lw_at lw_m8 20 rfl) rfl
theorem q1776 : (Jvm.Cond.laysFinal "PloughWillsModel" "PloughWillsModel" "begun" "[I") ∈ lw_all := lw_g (lw_at lw_m8 21 rfl) rfl
theorem q1777 : (Jvm.Cond.soleField "PloughWillsModel" "begun") ∈ lw_all := lw_g (lw_at lw_m8 22 rfl) rfl
theorem q1778 : (Jvm.Cond.laysFinal "PloughWillsModel" "PloughWillsModel" "around" "[I") ∈ lw_all := lw_g (lw_at lw_m8 23 rfl) rfl
theorem q1779 : (Jvm.Cond.soleField "PloughWillsModel" "around") ∈ lw_all := lw_g (lw_at lw_m8 24 rfl) rfl
theorem q1780 : (Jvm.Cond.laysFinal "PloughWillsModel" "PloughWillsModel" "middle" "[I") ∈ lw_all := lw_g (lw_at lw_m8 25 rfl) rfl
theorem q1781 : (Jvm.Cond.soleField "PloughWillsModel" "middle") ∈ lw_all := lw_g (lw_at lw_m8 26 rfl) rfl
theorem q1782 : (Jvm.Cond.laysFinal "PloughWillsModel" "PloughWillsModel" "end" "[I") ∈ lw_all := lw_g (lw_at lw_m8 27 rfl) rfl
theorem q1783 : (Jvm.Cond.soleField "PloughWillsModel" "end") ∈ lw_all := lw_g (lw_at lw_m8 28 rfl) rfl
theorem q1784 : (Jvm.Cond.lays "PloughWillsModel" "PloughWillsModel" "deepest" "I") ∈ lw_all := lw_g (lw_at lw_m8 29 rfl) rfl
theorem q1785 : (Jvm.Cond.soleField "PloughWillsModel" "deepest") ∈ lw_all := lw_g (lw_at lw_m8 30 rfl) rfl
theorem q1786 : (Jvm.Cond.laysFinal "PloughWillsModel" "PloughWillsModel" "so" "[I") ∈ lw_all := lw_g (lw_at lw_m8 31 rfl) rfl
theorem q1787 : (Jvm.Cond.soleField "PloughWillsModel" "so") ∈ lw_all := lw_g (lw_at lw_m8 32 rfl) rfl
theorem q1788 : (Jvm.Cond.laysFinal "PloughWillsModel" "PloughWillsModel" "starts" "[I") ∈ lw_all := lw_g (lw_at lw_m8 33 rfl) rfl
theorem q1789 : (Jvm.Cond.soleField "PloughWillsModel" "starts") ∈ lw_all := lw_g (lw_at lw_m8 34 rfl) rfl
theorem q1790 : (Jvm.Cond.laysFinal "PloughWillsModel" "PloughWillsModel" "firsts" "[I") ∈ lw_all := lw_g (lw_at lw_m8 35 rfl) rfl
theorem q1791 : (Jvm.Cond.soleField "PloughWillsModel" "firsts") ∈ lw_all := lw_g (lw_at lw_m8 36 rfl) rfl
theorem q1792 : (Jvm.Cond.lays "PloughWillsModel" "PloughWillsModel" "deep" "I") ∈ lw_all := lw_g (lw_at lw_m8 37 rfl) rfl
theorem q1793 : (Jvm.Cond.soleField "PloughWillsModel" "deep") ∈ lw_all := lw_g (lw_at lw_m8 38 rfl) rfl
theorem q1794 : (Jvm.Cond.lays "PloughWillsModel" "PloughWillsModel" "wrongReason" "I") ∈ lw_all := lw_g (lw_at lw_m8 39 rfl) rfl
theorem q1795 : (Jvm.Cond.soleField "PloughWillsModel" "wrongReason") ∈ lw_all := lw_g (lw_at lw_m8 40 rfl) rfl
theorem q1796 : (Jvm.Cond.lays "PloughWillsModel" "PloughWillsModel" "wrongPlace" "I") ∈ lw_all := lw_g (lw_at lw_m8 41 rfl) rfl
theorem q1797 : (Jvm.Cond.soleField "PloughWillsModel" "wrongPlace") ∈ lw_all := lw_g (lw_at lw_m8 42 rfl) rfl
theorem q1798 : (Jvm.Cond.lays "PloughWillsModel" "PloughWillsModel" "wrongDetail" "I") ∈ lw_all := lw_g (lw_at lw_m8 43 rfl) rfl
theorem q1799 : (Jvm.Cond.soleField "PloughWillsModel" "wrongDetail") ∈ lw_all := lw_g (lw_at lw_m8 44 rfl) rfl
theorem q1800 : (Jvm.Cond.laysFinal "PloughWillsModel" "PloughWillsModel" "isOn" "[Z") ∈ lw_all := lw_g (lw_at lw_m8 45 rfl) rfl
theorem q1801 : (Jvm.Cond.soleField "PloughWillsModel" "isOn") ∈ lw_all := lw_g (lw_at lw_m8 46 rfl) rfl
theorem q1802 : (Jvm.Cond.lays "PloughWillsModel" "PloughWillsModel" "choicesMet" "I") ∈ lw_all := lw_g (lw_at lw_m8 47 rfl) rfl
theorem q1803 : (Jvm.Cond.soleField "PloughWillsModel" "choicesMet") ∈ lw_all := lw_g (lw_at lw_m8 48 rfl) rfl
theorem q1804 : (Jvm.Cond.lays "PloughWillsModel" "PloughWillsModel" "left" "I") ∈ lw_all := lw_g (lw_at lw_m8 49 rfl) rfl
theorem q1805 : (Jvm.Cond.soleField "PloughWillsModel" "left") ∈ lw_all := lw_g (lw_at lw_m8 50 rfl) rfl
theorem q1806 : (Jvm.Cond.laysFinal "PloughWillsModel" "PloughWillsModel" "line" "[C") ∈ lw_all := lw_g (lw_at lw_m8 51 rfl) rfl
theorem q1807 : (Jvm.Cond.soleField "PloughWillsModel" "line") ∈ lw_all := lw_g (lw_at lw_m8 52 rfl) rfl
theorem q1808 : (Jvm.Cond.lays "PloughWillsModel" "PloughWillsModel" "lineMany" "I") ∈ lw_all := lw_g (lw_at lw_m8 53 rfl) rfl
theorem q1809 : (Jvm.Cond.soleField "PloughWillsModel" "lineMany") ∈ lw_all := lw_g (lw_at lw_m8 54 rfl) rfl
theorem q1810 : (Jvm.Cond.laysFinal "PloughWillsModel" "PloughWillsModel" "text" "[C") ∈ lw_all := lw_g (lw_at lw_m8 55 rfl) rfl
theorem q1811 : (Jvm.Cond.soleField "PloughWillsModel" "text") ∈ lw_all := lw_g (lw_at lw_m8 56 rfl) rfl
theorem q1812 : (Jvm.Cond.lays "PloughWillsModel" "PloughWillsModel" "length" "I") ∈ lw_all := lw_g (lw_at lw_m8 57 rfl) rfl
theorem q1813 : (Jvm.Cond.soleField "PloughWillsModel" "length") ∈ lw_all := lw_g (lw_at lw_m8 58 rfl) rfl
theorem q1814 : (Jvm.Cond.lays "PloughWillsModel" "PloughWillsModel" "error" "I") ∈ lw_all := lw_g (lw_at lw_m8 59 rfl) rfl
theorem q1815 : (Jvm.Cond.soleField "PloughWillsModel" "error") ∈ lw_all := lw_g (lw_at lw_m8 60 rfl) rfl
theorem q1816 : (Jvm.Cond.laysFinal "PloughWillsModel" "PloughWillsModel" "told" "[I") ∈ lw_all := lw_g (lw_at lw_m8 61 rfl) rfl
theorem q1817 : (Jvm.Cond.soleField "PloughWillsModel" "told") ∈ lw_all := lw_g (lw_at lw_m8 62 rfl) rfl
theorem q1818 : (Jvm.Cond.superclass "PloughWillsModel" "java/lang/Object") ∈ lw_all := lw_g (lw_at lw_m8 63 rfl) rfl
theorem q1821 : (Jvm.Cond.instanceMethod ({ cls := "PloughWillsModel", name := "thrown", desc := "()I" } : Jvm.MethodName)) ∈ lw_all := lw_g (lw_at lw_m8 66 rfl) rfl
theorem q1822 : (Jvm.Cond.selects "PloughWillsModel" ({ cls := "PloughWillsModel", name := "thrown", desc := "()I" } : Jvm.MethodName) ({ cls := "PloughWillsModel", name := "thrown", desc := "()I" } : Jvm.MethodName)) ∈ lw_all := lw_g (lw_at lw_m8 67 rfl) rfl
theorem q1823 : (Jvm.Cond.code ({ cls := "PloughWillsModel", name := "thrown", desc := "()I" } : Jvm.MethodName) prog_15_method_2_code (1 : Nat) (Option.some Jvm.ClassFile.FieldType.int)) ∈ lw_all := lw_g (lw_at lw_m8 68 rfl) rfl
theorem q1825 : (Jvm.Cond.instanceMethod ({ cls := "PloughWillsModel", name := "refusal", desc := "(Z)I" } : Jvm.MethodName)) ∈ lw_all := lw_g (lw_at lw_m8 70 rfl) rfl
theorem q1826 : (Jvm.Cond.selects "PloughWillsModel" ({ cls := "PloughWillsModel", name := "refusal", desc := "(Z)I" } : Jvm.MethodName) ({ cls := "PloughWillsModel", name := "refusal", desc := "(Z)I" } : Jvm.MethodName)) ∈ lw_all := lw_g (lw_at lw_m8 71 rfl) rfl
theorem q1827 : (Jvm.Cond.code ({ cls := "PloughWillsModel", name := "refusal", desc := "(Z)I" } : Jvm.MethodName) prog_15_method_8_code (2 : Nat) (Option.some Jvm.ClassFile.FieldType.int)) ∈ lw_all := lw_g (lw_at lw_m8 72 rfl) rfl
theorem q1829 : (Jvm.Cond.instanceMethod ({ cls := "PloughWillsModel", name := "good", desc := "(II)I" } : Jvm.MethodName)) ∈ lw_all := lw_g (lw_at lw_m8 74 rfl) rfl
theorem q1830 : (Jvm.Cond.selects "PloughWillsModel" ({ cls := "PloughWillsModel", name := "good", desc := "(II)I" } : Jvm.MethodName) ({ cls := "PloughWillsModel", name := "good", desc := "(II)I" } : Jvm.MethodName)) ∈ lw_all := lw_g (lw_at lw_m8 75 rfl) rfl
theorem q1831 : (Jvm.Cond.code ({ cls := "PloughWillsModel", name := "good", desc := "(II)I" } : Jvm.MethodName) prog_15_method_11_code (4 : Nat) (Option.some Jvm.ClassFile.FieldType.int)) ∈ lw_all := lw_g (lw_at lw_m8 76 rfl) rfl
theorem q1832 : (Jvm.Cond.methodLink "PloughWillsModel" (86 : Nat) ({ cls := "PloughWillsModel", name := "keep", desc := "()V" } : Jvm.MethodName)) ∈ lw_all := lw_g (lw_at lw_m8 77 rfl) rfl
theorem q1833 : (Jvm.Cond.privateMethod ({ cls := "PloughWillsModel", name := "keep", desc := "()V" } : Jvm.MethodName)) ∈ lw_tbl := lw_at lw_m8 78 rfl
theorem q1834 : (Jvm.Cond.instanceMethod ({ cls := "PloughWillsModel", name := "keep", desc := "()V" } : Jvm.MethodName)) ∈ lw_all := lw_g (lw_at lw_m8 79 rfl) rfl
theorem q1835 : (Jvm.Cond.code ({ cls := "PloughWillsModel", name := "keep", desc := "()V" } : Jvm.MethodName) prog_15_method_4_code (1 : Nat) (Option.none : Option Jvm.ClassFile.FieldType)) ∈ lw_all := lw_g (lw_at lw_m8 80 rfl) rfl
theorem q1836 : (Jvm.Cond.methodLink "PloughWillsModel" (67 : Nat) ({ cls := "java/lang/System", name := "arraycopy", desc := "(Ljava/lang/Object;ILjava/lang/Object;II)V" } : Jvm.MethodName)) ∈ lw_all := lw_g (lw_at lw_m8 81 rfl) rfl
theorem q1837 : (Jvm.Cond.methodLink "PloughWillsModel" (82 : Nat) ({ cls := "PloughWillsModel", name := "in", desc := "(III)Z" } : Jvm.MethodName)) ∈ lw_all := lw_g (lw_at lw_m8 82 rfl) rfl
theorem q1838 : (Jvm.Cond.static ({ cls := "PloughWillsModel", name := "in", desc := "(III)Z" } : Jvm.MethodName)) ∈ lw_all := lw_g (lw_at lw_m8 83 rfl) rfl
theorem q1839 : (Jvm.Cond.code ({ cls := "PloughWillsModel", name := "in", desc := "(III)Z" } : Jvm.MethodName) prog_15_method_3_code (3 : Nat) (Option.some Jvm.ClassFile.FieldType.boolean)) ∈ lw_all := lw_g (lw_at lw_m8 84 rfl) rfl
theorem q1840 : (Jvm.Cond.methodLink "PloughWillsModel" (89 : Nat) ({ cls := "PloughWillsModel", name := "fails", desc := "(I)I" } : Jvm.MethodName)) ∈ lw_all := lw_g (lw_at lw_m8 85 rfl) rfl
theorem q1841 : (Jvm.Cond.privateMethod ({ cls := "PloughWillsModel", name := "fails", desc := "(I)I" } : Jvm.MethodName)) ∈ lw_tbl := lw_at lw_m8 86 rfl
theorem q1842 : (Jvm.Cond.instanceMethod ({ cls := "PloughWillsModel", name := "fails", desc := "(I)I" } : Jvm.MethodName)) ∈ lw_all := lw_g (lw_at lw_m8 87 rfl) rfl
theorem q1843 : (Jvm.Cond.code ({ cls := "PloughWillsModel", name := "fails", desc := "(I)I" } : Jvm.MethodName) prog_15_method_6_code (2 : Nat) (Option.some Jvm.ClassFile.FieldType.int)) ∈ lw_all := lw_g (lw_at lw_m8 88 rfl) rfl
theorem q1844 : (Jvm.Cond.methodLink "PloughWillsModel" (93 : Nat) ({ cls := "PloughWillsModel", name := "ends", desc := "(I)I" } : Jvm.MethodName)) ∈ lw_all := lw_g (lw_at lw_m8 89 rfl) rfl
theorem q1845 : (Jvm.Cond.privateMethod ({ cls := "PloughWillsModel", name := "ends", desc := "(I)I" } : Jvm.MethodName)) ∈ lw_tbl := lw_at lw_m8 90 rfl
theorem q1846 : (Jvm.Cond.instanceMethod ({ cls := "PloughWillsModel", name := "ends", desc := "(I)I" } : Jvm.MethodName)) ∈ lw_all := lw_g (lw_at lw_m8 91 rfl) rfl
theorem q1847 : (Jvm.Cond.code ({ cls := "PloughWillsModel", name := "ends", desc := "(I)I" } : Jvm.MethodName) prog_15_method_5_code (2 : Nat) (Option.some Jvm.ClassFile.FieldType.int)) ∈ lw_all := lw_g (lw_at lw_m8 92 rfl) rfl
theorem q1848 : (Jvm.Cond.methodLink "PloughWillsModel" (96 : Nat) ({ cls := "PloughWillsModel", name := "refuse", desc := "(III)I" } : Jvm.MethodName)) ∈ lw_all := lw_g (lw_at lw_m8 93 rfl) rfl
theorem q1849 : (Jvm.Cond.privateMethod ({ cls := "PloughWillsModel", name := "refuse", desc := "(III)I" } : Jvm.MethodName)) ∈ lw_tbl := lw_at lw_m8 94 rfl
theorem q1850 : (Jvm.Cond.instanceMethod ({ cls := "PloughWillsModel", name := "refuse", desc := "(III)I" } : Jvm.MethodName)) ∈ lw_all := lw_g (lw_at lw_m8 95 rfl) rfl
theorem q1851 : (Jvm.Cond.code ({ cls := "PloughWillsModel", name := "refuse", desc := "(III)I" } : Jvm.MethodName) prog_15_method_7_code (4 : Nat) (Option.some Jvm.ClassFile.FieldType.int)) ∈ lw_all := lw_g (lw_at lw_m8 96 rfl) rfl
theorem q1853 : (Jvm.Cond.instanceMethod ({ cls := "PloughWillsModel", name := "put", desc := "(II)I" } : Jvm.MethodName)) ∈ lw_all := lw_g (lw_at lw_m8 98 rfl) rfl
theorem q1854 : (Jvm.Cond.selects "PloughWillsModel" ({ cls := "PloughWillsModel", name := "put", desc := "(II)I" } : Jvm.MethodName) ({ cls := "PloughWillsModel", name := "put", desc := "(II)I" } : Jvm.MethodName)) ∈ lw_all := lw_g (lw_at lw_m8 99 rfl) rfl
theorem q1855 : (Jvm.Cond.code ({ cls := "PloughWillsModel", name := "put", desc := "(II)I" } : Jvm.MethodName) prog_15_method_13_code (4 : Nat) (Option.some Jvm.ClassFile.FieldType.int)) ∈ lw_all := lw_g (lw_at lw_m8 100 rfl) rfl
theorem q1856 : (Jvm.Cond.methodLink "PloughWillsModel" (100 : Nat) ({ cls := "PloughWillsModel", name := "isGood", desc := "(I)Z" } : Jvm.MethodName)) ∈ lw_all := lw_g (lw_at lw_m8 101 rfl) rfl
theorem q1857 : (Jvm.Cond.privateMethod ({ cls := "PloughWillsModel", name := "isGood", desc := "(I)Z" } : Jvm.MethodName)) ∈ lw_tbl := lw_at lw_m8 102 rfl
theorem q1858 : (Jvm.Cond.instanceMethod ({ cls := "PloughWillsModel", name := "isGood", desc := "(I)Z" } : Jvm.MethodName)) ∈ lw_all := lw_g (lw_at lw_m8 103 rfl) rfl
theorem q1859 : (Jvm.Cond.code ({ cls := "PloughWillsModel", name := "isGood", desc := "(I)Z" } : Jvm.MethodName) prog_15_method_9_code (2 : Nat) (Option.some Jvm.ClassFile.FieldType.boolean)) ∈ lw_all := lw_g (lw_at lw_m8 104 rfl) rfl
theorem q1860 : (Jvm.Cond.methodLink "PloughWillsModel" (104 : Nat) ({ cls := "PloughWillsModel", name := "isChest", desc := "(I)Z" } : Jvm.MethodName)) ∈ lw_all := lw_g (lw_at lw_m8 105 rfl) rfl
theorem q1861 : (Jvm.Cond.static ({ cls := "PloughWillsModel", name := "isChest", desc := "(I)Z" } : Jvm.MethodName)) ∈ lw_all := lw_g (lw_at lw_m8 106 rfl) rfl
theorem q1862 : (Jvm.Cond.code ({ cls := "PloughWillsModel", name := "isChest", desc := "(I)Z" } : Jvm.MethodName) prog_15_method_10_code (1 : Nat) (Option.some Jvm.ClassFile.FieldType.boolean)) ∈ lw_all := lw_g (lw_at lw_m8 107 rfl) rfl
theorem q1863 : (Jvm.Cond.methodLink "PloughWillsModel" (107 : Nat) ({ cls := "PloughWillsModel", name := "placeOf", desc := "(I)I" } : Jvm.MethodName)) ∈ lw_all := lw_g (lw_at lw_m8 108 rfl) rfl
theorem q1864 : (Jvm.Cond.privateMethod ({ cls := "PloughWillsModel", name := "placeOf", desc := "(I)I" } : Jvm.MethodName)) ∈ lw_tbl := lw_at lw_m8 109 rfl
theorem q1865 : (Jvm.Cond.instanceMethod ({ cls := "PloughWillsModel", name := "placeOf", desc := "(I)I" } : Jvm.MethodName)) ∈ lw_all := lw_g (lw_at lw_m8 110 rfl) rfl
theorem q1866 : (Jvm.Cond.code ({ cls := "PloughWillsModel", name := "placeOf", desc := "(I)I" } : Jvm.MethodName) prog_15_method_12_code (5 : Nat) (Option.some Jvm.ClassFile.FieldType.int)) ∈ lw_all := lw_g (lw_at lw_m8 111 rfl) rfl
theorem q1868 : (Jvm.Cond.instanceMethod ({ cls := "PloughWillsModel", name := "takeOut", desc := "(I)I" } : Jvm.MethodName)) ∈ lw_all := lw_g (lw_at lw_m8 113 rfl) rfl
theorem q1869 : (Jvm.Cond.selects "PloughWillsModel" ({ cls := "PloughWillsModel", name := "takeOut", desc := "(I)I" } : Jvm.MethodName) ({ cls := "PloughWillsModel", name := "takeOut", desc := "(I)I" } : Jvm.MethodName)) ∈ lw_all := lw_g (lw_at lw_m8 114 rfl) rfl
theorem q1870 : (Jvm.Cond.code ({ cls := "PloughWillsModel", name := "takeOut", desc := "(I)I" } : Jvm.MethodName) prog_15_method_14_code (5 : Nat) (Option.some Jvm.ClassFile.FieldType.int)) ∈ lw_all := lw_g (lw_at lw_m8 115 rfl) rfl
theorem q1872 : (Jvm.Cond.instanceMethod ({ cls := "PloughWillsModel", name := "rate", desc := "(II)I" } : Jvm.MethodName)) ∈ lw_all := lw_g (lw_at lw_m8 117 rfl) rfl
theorem q1873 : (Jvm.Cond.selects "PloughWillsModel" ({ cls := "PloughWillsModel", name := "rate", desc := "(II)I" } : Jvm.MethodName) ({ cls := "PloughWillsModel", name := "rate", desc := "(II)I" } : Jvm.MethodName)) ∈ lw_all := lw_g (lw_at lw_m8 118 rfl) rfl
theorem q1874 : (Jvm.Cond.code ({ cls := "PloughWillsModel", name := "rate", desc := "(II)I" } : Jvm.MethodName) prog_15_method_15_code (4 : Nat) (Option.some Jvm.ClassFile.FieldType.int)) ∈ lw_all := lw_g (lw_at lw_m8 119 rfl) rfl
theorem q1876 : (Jvm.Cond.instanceMethod ({ cls := "PloughWillsModel", name := "goodOf", desc := "(II)I" } : Jvm.MethodName)) ∈ lw_all := lw_g (lw_at lw_m8 121 rfl) rfl
theorem q1877 : (Jvm.Cond.selects "PloughWillsModel" ({ cls := "PloughWillsModel", name := "goodOf", desc := "(II)I" } : Jvm.MethodName) ({ cls := "PloughWillsModel", name := "goodOf", desc := "(II)I" } : Jvm.MethodName)) ∈ lw_all := lw_g (lw_at lw_m8 122 rfl) rfl
theorem q1878 : (Jvm.Cond.code ({ cls := "PloughWillsModel", name := "goodOf", desc := "(II)I" } : Jvm.MethodName) prog_15_method_17_code (3 : Nat) (Option.some Jvm.ClassFile.FieldType.int)) ∈ lw_all := lw_g (lw_at lw_m8 123 rfl) rfl
theorem q1879 : (Jvm.Cond.methodLink "PloughWillsModel" (116 : Nat) ({ cls := "PloughWillsModel", name := "clausesWith", desc := "(III)I" } : Jvm.MethodName)) ∈ lw_all := lw_g (lw_at lw_m8 124 rfl) rfl
theorem q1880 : (Jvm.Cond.privateMethod ({ cls := "PloughWillsModel", name := "clausesWith", desc := "(III)I" } : Jvm.MethodName)) ∈ lw_tbl := lw_at lw_m8 125 rfl
theorem q1881 : (Jvm.Cond.instanceMethod ({ cls := "PloughWillsModel", name := "clausesWith", desc := "(III)I" } : Jvm.MethodName)) ∈ lw_all := lw_g (lw_at lw_m8 126 rfl) rfl
theorem q1882 : (Jvm.Cond.code ({ cls := "PloughWillsModel", name := "clausesWith", desc := "(III)I" } : Jvm.MethodName) prog_15_method_16_code (7 : Nat) (Option.some Jvm.ClassFile.FieldType.int)) ∈ lw_all := lw_g (lw_at lw_m8 127 rfl) rfl
theorem q1883 : (Jvm.Cond.methodLink "PloughWillsModel" (110 : Nat) ({ cls := "PloughWillsModel", name := "sort", desc := "(I)I" } : Jvm.MethodName)) ∈ lw_all := lw_g (lw_at lw_m8 128 rfl) rfl
theorem q1884 : (Jvm.Cond.privateMethod ({ cls := "PloughWillsModel", name := "sort", desc := "(I)I" } : Jvm.MethodName)) ∈ lw_tbl := lw_at lw_m8 129 rfl
theorem q1885 : (Jvm.Cond.instanceMethod ({ cls := "PloughWillsModel", name := "sort", desc := "(I)I" } : Jvm.MethodName)) ∈ lw_all := lw_g (lw_at lw_m8 130 rfl) rfl
theorem q1886 : (Jvm.Cond.code ({ cls := "PloughWillsModel", name := "sort", desc := "(I)I" } : Jvm.MethodName) prog_15_method_23_code (2 : Nat) (Option.some Jvm.ClassFile.FieldType.int)) ∈ lw_all := lw_g (lw_at lw_m8 131 rfl) rfl
theorem q1887 : (Jvm.Cond.methodLink "PloughWillsModel" (113 : Nat) ({ cls := "PloughWillsModel", name := "goodIn", desc := "(I)I" } : Jvm.MethodName)) ∈ lw_all := lw_g (lw_at lw_m8 132 rfl) rfl
theorem q1888 : (Jvm.Cond.privateMethod ({ cls := "PloughWillsModel", name := "goodIn", desc := "(I)I" } : Jvm.MethodName)) ∈ lw_tbl := lw_at lw_m8 133 rfl
theorem q1889 : (Jvm.Cond.instanceMethod ({ cls := "PloughWillsModel", name := "goodIn", desc := "(I)I" } : Jvm.MethodName)) ∈ lw_all := lw_g (lw_at lw_m8 134 rfl) rfl
theorem q1890 : (Jvm.Cond.code ({ cls := "PloughWillsModel", name := "goodIn", desc := "(I)I" } : Jvm.MethodName) prog_15_method_25_code (3 : Nat) (Option.some Jvm.ClassFile.FieldType.int)) ∈ lw_all := lw_g (lw_at lw_m8 135 rfl) rfl
theorem q1891 : (Jvm.Cond.methodLink "PloughWillsModel" (133 : Nat) ({ cls := "PloughWillsModel", name := "one", desc := "(I)I" } : Jvm.MethodName)) ∈ lw_all := lw_g (lw_at lw_m8 136 rfl) rfl
theorem q1892 : (Jvm.Cond.privateMethod ({ cls := "PloughWillsModel", name := "one", desc := "(I)I" } : Jvm.MethodName)) ∈ lw_tbl := lw_at lw_m8 137 rfl
theorem q1893 : (Jvm.Cond.instanceMethod ({ cls := "PloughWillsModel", name := "one", desc := "(I)I" } : Jvm.MethodName)) ∈ lw_all := lw_g (lw_at lw_m8 138 rfl) rfl
theorem q1894 : (Jvm.Cond.code ({ cls := "PloughWillsModel", name := "one", desc := "(I)I" } : Jvm.MethodName) prog_15_method_24_code (2 : Nat) (Option.some Jvm.ClassFile.FieldType.int)) ∈ lw_all := lw_g (lw_at lw_m8 139 rfl) rfl
theorem q1896 : (Jvm.Cond.instanceMethod ({ cls := "PloughWillsModel", name := "chestAt", desc := "(II)I" } : Jvm.MethodName)) ∈ lw_all := lw_g (lw_at lw_m8 141 rfl) rfl
theorem q1897 : (Jvm.Cond.selects "PloughWillsModel" ({ cls := "PloughWillsModel", name := "chestAt", desc := "(II)I" } : Jvm.MethodName) ({ cls := "PloughWillsModel", name := "chestAt", desc := "(II)I" } : Jvm.MethodName)) ∈ lw_all := lw_g (lw_at lw_m8 142 rfl) rfl
theorem q1898 : (Jvm.Cond.code ({ cls := "PloughWillsModel", name := "chestAt", desc := "(II)I" } : Jvm.MethodName) prog_15_method_18_code (3 : Nat) (Option.some Jvm.ClassFile.FieldType.int)) ∈ lw_all := lw_g (lw_at lw_m8 143 rfl) rfl
theorem q1900 : (Jvm.Cond.instanceMethod ({ cls := "PloughWillsModel", name := "tithe", desc := "(I)F" } : Jvm.MethodName)) ∈ lw_all := lw_g (lw_at lw_m8 145 rfl) rfl
theorem q1901 : (Jvm.Cond.selects "PloughWillsModel" ({ cls := "PloughWillsModel", name := "tithe", desc := "(I)F" } : Jvm.MethodName) ({ cls := "PloughWillsModel", name := "tithe", desc := "(I)F" } : Jvm.MethodName)) ∈ lw_all := lw_g (lw_at lw_m8 146 rfl) rfl
theorem q1902 : (Jvm.Cond.code ({ cls := "PloughWillsModel", name := "tithe", desc := "(I)F" } : Jvm.MethodName) prog_15_method_21_code (2 : Nat) (Option.some Jvm.ClassFile.FieldType.float)) ∈ lw_all := lw_g (lw_at lw_m8 147 rfl) rfl
theorem q1903 : (Jvm.Cond.methodLink "PloughWillsModel" (124 : Nat) ({ cls := "PloughWillsModel", name := "titheOf", desc := "(I)F" } : Jvm.MethodName)) ∈ lw_all := lw_g (lw_at lw_m8 148 rfl) rfl
theorem q1904 : (Jvm.Cond.privateMethod ({ cls := "PloughWillsModel", name := "titheOf", desc := "(I)F" } : Jvm.MethodName)) ∈ lw_tbl := lw_at lw_m8 149 rfl
theorem q1905 : (Jvm.Cond.instanceMethod ({ cls := "PloughWillsModel", name := "titheOf", desc := "(I)F" } : Jvm.MethodName)) ∈ lw_all := lw_g (lw_at lw_m8 150 rfl) rfl
theorem q1906 : (Jvm.Cond.code ({ cls := "PloughWillsModel", name := "titheOf", desc := "(I)F" } : Jvm.MethodName) prog_15_method_20_code (2 : Nat) (Option.some Jvm.ClassFile.FieldType.float)) ∈ lw_all := lw_g (lw_at lw_m8 151 rfl) rfl
theorem q1907 : (Jvm.Cond.methodLink "PloughWillsModel" (120 : Nat) ({ cls := "PloughWillsModel", name := "rateOf", desc := "(I)F" } : Jvm.MethodName)) ∈ lw_all := lw_g (lw_at lw_m8 152 rfl) rfl
theorem q1908 : (Jvm.Cond.privateMethod ({ cls := "PloughWillsModel", name := "rateOf", desc := "(I)F" } : Jvm.MethodName)) ∈ lw_tbl := lw_at lw_m8 153 rfl
theorem q1909 : (Jvm.Cond.instanceMethod ({ cls := "PloughWillsModel", name := "rateOf", desc := "(I)F" } : Jvm.MethodName)) ∈ lw_all := lw_g (lw_at lw_m8 154 rfl) rfl
theorem q1910 : (Jvm.Cond.code ({ cls := "PloughWillsModel", name := "rateOf", desc := "(I)F" } : Jvm.MethodName) prog_15_method_19_code (2 : Nat) (Option.some Jvm.ClassFile.FieldType.float)) ∈ lw_all := lw_g (lw_at lw_m8 155 rfl) rfl
theorem q1911 : (Jvm.Cond.constantFloat "PloughWillsModel" (119 : Nat) (1120403456 : UInt32)) ∈ lw_all := lw_g (lw_at lw_m8 156 rfl) rfl
theorem q1913 : (Jvm.Cond.instanceMethod ({ cls := "PloughWillsModel", name := "rateBits", desc := "(I)I" } : Jvm.MethodName)) ∈ lw_all := lw_g (lw_at lw_m8 158 rfl) rfl
theorem q1914 : (Jvm.Cond.selects "PloughWillsModel" ({ cls := "PloughWillsModel", name := "rateBits", desc := "(I)I" } : Jvm.MethodName) ({ cls := "PloughWillsModel", name := "rateBits", desc := "(I)I" } : Jvm.MethodName)) ∈ lw_all := lw_g (lw_at lw_m8 159 rfl) rfl
theorem q1915 : (Jvm.Cond.code ({ cls := "PloughWillsModel", name := "rateBits", desc := "(I)I" } : Jvm.MethodName) prog_15_method_22_code (2 : Nat) (Option.some Jvm.ClassFile.FieldType.int)) ∈ lw_all := lw_g (lw_at lw_m8 160 rfl) rfl
theorem q1916 : (Jvm.Cond.methodLink "PloughWillsModel" (127 : Nat) ({ cls := "java/lang/Float", name := "floatToIntBits", desc := "(F)I" } : Jvm.MethodName)) ∈ lw_all := lw_g (lw_at lw_m8 161 rfl) rfl
theorem q1918 : (Jvm.Cond.instanceMethod ({ cls := "PloughWillsModel", name := "add", desc := "(III)I" } : Jvm.MethodName)) ∈ lw_all := lw_g (lw_at lw_m8 163 rfl) rfl
theorem q1919 : (Jvm.Cond.selects "PloughWillsModel" ({ cls := "PloughWillsModel", name := "add", desc := "(III)I" } : Jvm.MethodName) ({ cls := "PloughWillsModel", name := "add", desc := "(III)I" } : Jvm.MethodName)) ∈ lw_all := lw_g (lw_at lw_m8 164 rfl) rfl
theorem q1920 : (Jvm.Cond.code ({ cls := "PloughWillsModel", name := "add", desc := "(III)I" } : Jvm.MethodName) prog_15_method_32_code (4 : Nat) (Option.some Jvm.ClassFile.FieldType.int)) ∈ lw_all := lw_g (lw_at lw_m8 165 rfl) rfl
theorem q1921 : (Jvm.Cond.methodLink "PloughWillsModel" (153 : Nat) ({ cls := "PloughWillsModel", name := "doInsert", desc := "(IIIII)I" } : Jvm.MethodName)) ∈ lw_all := lw_g (lw_at lw_m8 166 rfl) rfl
theorem q1922 : (Jvm.Cond.privateMethod ({ cls := "PloughWillsModel", name := "doInsert", desc := "(IIIII)I" } : Jvm.MethodName)) ∈ lw_tbl := lw_at lw_m8 167 rfl
theorem q1923 : (Jvm.Cond.instanceMethod ({ cls := "PloughWillsModel", name := "doInsert", desc := "(IIIII)I" } : Jvm.MethodName)) ∈ lw_all := lw_g (lw_at lw_m8 168 rfl) rfl
theorem q1924 : (Jvm.Cond.code ({ cls := "PloughWillsModel", name := "doInsert", desc := "(IIIII)I" } : Jvm.MethodName) prog_15_method_31_code (7 : Nat) (Option.some Jvm.ClassFile.FieldType.int)) ∈ lw_all := lw_g (lw_at lw_m8 169 rfl) rfl
theorem q1925 : (Jvm.Cond.methodLink "PloughWillsModel" (145 : Nat) ({ cls := "PloughWillsModel", name := "isFit", desc := "(IIII)Z" } : Jvm.MethodName)) ∈ lw_all := lw_g (lw_at lw_m8 170 rfl) rfl
theorem q1926 : (Jvm.Cond.privateMethod ({ cls := "PloughWillsModel", name := "isFit", desc := "(IIII)Z" } : Jvm.MethodName)) ∈ lw_tbl := lw_at lw_m8 171 rfl
theorem q1927 : (Jvm.Cond.instanceMethod ({ cls := "PloughWillsModel", name := "isFit", desc := "(IIII)Z" } : Jvm.MethodName)) ∈ lw_all := lw_g (lw_at lw_m8 172 rfl) rfl
theorem q1928 : (Jvm.Cond.code ({ cls := "PloughWillsModel", name := "isFit", desc := "(IIII)Z" } : Jvm.MethodName) prog_15_method_29_code (8 : Nat) (Option.some Jvm.ClassFile.FieldType.boolean)) ∈ lw_all := lw_g (lw_at lw_m8 173 rfl) rfl
theorem q1929 : (Jvm.Cond.methodLink "PloughWillsModel" (136 : Nat) ({ cls := "PloughWillsModel", name := "hasPlough", desc := "(I)Z" } : Jvm.MethodName)) ∈ lw_all := lw_g (lw_at lw_m8 174 rfl) rfl
theorem q1930 : (Jvm.Cond.static ({ cls := "PloughWillsModel", name := "hasPlough", desc := "(I)Z" } : Jvm.MethodName)) ∈ lw_all := lw_g (lw_at lw_m8 175 rfl) rfl
theorem q1931 : (Jvm.Cond.code ({ cls := "PloughWillsModel", name := "hasPlough", desc := "(I)Z" } : Jvm.MethodName) prog_15_method_26_code (1 : Nat) (Option.some Jvm.ClassFile.FieldType.boolean)) ∈ lw_all := lw_g (lw_at lw_m8 176 rfl) rfl
theorem q1932 : (Jvm.Cond.methodLink "PloughWillsModel" (139 : Nat) ({ cls := "PloughWillsModel", name := "hasGood", desc := "(I)Z" } : Jvm.MethodName)) ∈ lw_all := lw_g (lw_at lw_m8 177 rfl) rfl
theorem q1933 : (Jvm.Cond.static ({ cls := "PloughWillsModel", name := "hasGood", desc := "(I)Z" } : Jvm.MethodName)) ∈ lw_all := lw_g (lw_at lw_m8 178 rfl) rfl
theorem q1934 : (Jvm.Cond.code ({ cls := "PloughWillsModel", name := "hasGood", desc := "(I)Z" } : Jvm.MethodName) prog_15_method_28_code (1 : Nat) (Option.some Jvm.ClassFile.FieldType.boolean)) ∈ lw_all := lw_g (lw_at lw_m8 179 rfl) rfl
theorem q1935 : (Jvm.Cond.methodLink "PloughWillsModel" (142 : Nat) ({ cls := "PloughWillsModel", name := "isPut", desc := "(I)Z" } : Jvm.MethodName)) ∈ lw_all := lw_g (lw_at lw_m8 180 rfl) rfl
theorem q1936 : (Jvm.Cond.static ({ cls := "PloughWillsModel", name := "isPut", desc := "(I)Z" } : Jvm.MethodName)) ∈ lw_all := lw_g (lw_at lw_m8 181 rfl) rfl
theorem q1937 : (Jvm.Cond.code ({ cls := "PloughWillsModel", name := "isPut", desc := "(I)Z" } : Jvm.MethodName) prog_15_method_27_code (1 : Nat) (Option.some Jvm.ClassFile.FieldType.boolean)) ∈ lw_all := lw_g (lw_at lw_m8 182 rfl) rfl
theorem q1938 : (Jvm.Cond.methodLink "PloughWillsModel" (149 : Nat) ({ cls := "PloughWillsModel", name := "sets", desc := "(IIII)V" } : Jvm.MethodName)) ∈ lw_all := lw_g (lw_at lw_m8 183 rfl) rfl
theorem q1939 : (Jvm.Cond.privateMethod ({ cls := "PloughWillsModel", name := "sets", desc := "(IIII)V" } : Jvm.MethodName)) ∈ lw_tbl := lw_at lw_m8 184 rfl
theorem q1940 : (Jvm.Cond.instanceMethod ({ cls := "PloughWillsModel", name := "sets", desc := "(IIII)V" } : Jvm.MethodName)) ∈ lw_all := lw_g (lw_at lw_m8 185 rfl) rfl
theorem q1941 : (Jvm.Cond.code ({ cls := "PloughWillsModel", name := "sets", desc := "(IIII)V" } : Jvm.MethodName) prog_15_method_30_code (5 : Nat) (Option.none : Option Jvm.ClassFile.FieldType)) ∈ lw_all := lw_g (lw_at lw_m8 186 rfl) rfl
theorem q1943 : (Jvm.Cond.instanceMethod ({ cls := "PloughWillsModel", name := "insert", desc := "(IIII)I" } : Jvm.MethodName)) ∈ lw_all := lw_g (lw_at lw_m8 188 rfl) rfl
theorem q1944 : (Jvm.Cond.selects "PloughWillsModel" ({ cls := "PloughWillsModel", name := "insert", desc := "(IIII)I" } : Jvm.MethodName) ({ cls := "PloughWillsModel", name := "insert", desc := "(IIII)I" } : Jvm.MethodName)) ∈ lw_all := lw_g (lw_at lw_m8 189 rfl) rfl
theorem q1945 : (Jvm.Cond.code ({ cls := "PloughWillsModel", name := "insert", desc := "(IIII)I" } : Jvm.MethodName) prog_15_method_33_code (5 : Nat) (Option.some Jvm.ClassFile.FieldType.int)) ∈ lw_all := lw_g (lw_at lw_m8 190 rfl) rfl
theorem q1947 : (Jvm.Cond.instanceMethod ({ cls := "PloughWillsModel", name := "remove", desc := "(I)I" } : Jvm.MethodName)) ∈ lw_all := lw_g (lw_at lw_m8 192 rfl) rfl
theorem q1948 : (Jvm.Cond.selects "PloughWillsModel" ({ cls := "PloughWillsModel", name := "remove", desc := "(I)I" } : Jvm.MethodName) ({ cls := "PloughWillsModel", name := "remove", desc := "(I)I" } : Jvm.MethodName)) ∈ lw_all := lw_g (lw_at lw_m8 193 rfl) rfl
theorem q1949 : (Jvm.Cond.code ({ cls := "PloughWillsModel", name := "remove", desc := "(I)I" } : Jvm.MethodName) prog_15_method_35_code (4 : Nat) (Option.some Jvm.ClassFile.FieldType.int)) ∈ lw_all := lw_g (lw_at lw_m8 194 rfl) rfl
theorem q1950 : (Jvm.Cond.methodLink "PloughWillsModel" (157 : Nat) ({ cls := "PloughWillsModel", name := "isClause", desc := "(I)Z" } : Jvm.MethodName)) ∈ lw_all := lw_g (lw_at lw_m8 195 rfl) rfl
theorem q1951 : (Jvm.Cond.privateMethod ({ cls := "PloughWillsModel", name := "isClause", desc := "(I)Z" } : Jvm.MethodName)) ∈ lw_tbl := lw_at lw_m8 196 rfl
theorem q1952 : (Jvm.Cond.instanceMethod ({ cls := "PloughWillsModel", name := "isClause", desc := "(I)Z" } : Jvm.MethodName)) ∈ lw_all := lw_g (lw_at lw_m8 197 rfl) rfl
theorem q1953 : (Jvm.Cond.code ({ cls := "PloughWillsModel", name := "isClause", desc := "(I)Z" } : Jvm.MethodName) prog_15_method_34_code (2 : Nat) (Option.some Jvm.ClassFile.FieldType.boolean)) ∈ lw_all := lw_g (lw_at lw_m8 198 rfl) rfl
theorem q1955 : (Jvm.Cond.instanceMethod ({ cls := "PloughWillsModel", name := "clauseOf", desc := "(II)I" } : Jvm.MethodName)) ∈ lw_all := lw_g (lw_at lw_m8 200 rfl) rfl
theorem q1956 : (Jvm.Cond.selects "PloughWillsModel" ({ cls := "PloughWillsModel", name := "clauseOf", desc := "(II)I" } : Jvm.MethodName) ({ cls := "PloughWillsModel", name := "clauseOf", desc := "(II)I" } : Jvm.MethodName)) ∈ lw_all := lw_g (lw_at lw_m8 201 rfl) rfl
theorem q1957 : (Jvm.Cond.code ({ cls := "PloughWillsModel", name := "clauseOf", desc := "(II)I" } : Jvm.MethodName) prog_15_method_37_code (3 : Nat) (Option.some Jvm.ClassFile.FieldType.int)) ∈ lw_all := lw_g (lw_at lw_m8 202 rfl) rfl
theorem q1958 : (Jvm.Cond.methodLink "PloughWillsModel" (169 : Nat) ({ cls := "PloughWillsModel", name := "nests", desc := "()Z" } : Jvm.MethodName)) ∈ lw_all := lw_g (lw_at lw_m8 203 rfl) rfl
theorem q1959 : (Jvm.Cond.privateMethod ({ cls := "PloughWillsModel", name := "nests", desc := "()Z" } : Jvm.MethodName)) ∈ lw_tbl := lw_at lw_m8 204 rfl
theorem q1960 : (Jvm.Cond.instanceMethod ({ cls := "PloughWillsModel", name := "nests", desc := "()Z" } : Jvm.MethodName)) ∈ lw_all := lw_g (lw_at lw_m8 205 rfl) rfl
theorem q1961 : (Jvm.Cond.code ({ cls := "PloughWillsModel", name := "nests", desc := "()Z" } : Jvm.MethodName) prog_15_method_36_code (5 : Nat) (Option.some Jvm.ClassFile.FieldType.boolean)) ∈ lw_all := lw_g (lw_at lw_m8 206 rfl) rfl
theorem q1962 : (Jvm.Cond.methodLink "PloughWillsModel" (163 : Nat) ({ cls := "java/lang/Math", name := "max", desc := "(II)I" } : Jvm.MethodName)) ∈ lw_all := lw_g (lw_at lw_m8 207 rfl) rfl
theorem q1964 : (Jvm.Cond.instanceMethod ({ cls := "PloughWillsModel", name := "wrong", desc := "(I)I" } : Jvm.MethodName)) ∈ lw_all := lw_g (lw_at lw_m8 209 rfl) rfl
theorem q1965 : (Jvm.Cond.selects "PloughWillsModel" ({ cls := "PloughWillsModel", name := "wrong", desc := "(I)I" } : Jvm.MethodName) ({ cls := "PloughWillsModel", name := "wrong", desc := "(I)I" } : Jvm.MethodName)) ∈ lw_all := lw_g (lw_at lw_m8 210 rfl) rfl
theorem q1966 : (Jvm.Cond.code ({ cls := "PloughWillsModel", name := "wrong", desc := "(I)I" } : Jvm.MethodName) prog_15_method_52_code (2 : Nat) (Option.some Jvm.ClassFile.FieldType.int)) ∈ lw_all := lw_g (lw_at lw_m8 211 rfl) rfl
theorem q1967 : (Jvm.Cond.methodLink "PloughWillsModel" (229 : Nat) ({ cls := "PloughWillsModel", name := "looks", desc := "()V" } : Jvm.MethodName)) ∈ lw_all := lw_g (lw_at lw_m8 212 rfl) rfl
theorem q1968 : (Jvm.Cond.privateMethod ({ cls := "PloughWillsModel", name := "looks", desc := "()V" } : Jvm.MethodName)) ∈ lw_tbl := lw_at lw_m8 213 rfl
theorem q1969 : (Jvm.Cond.instanceMethod ({ cls := "PloughWillsModel", name := "looks", desc := "()V" } : Jvm.MethodName)) ∈ lw_all := lw_g (lw_at lw_m8 214 rfl) rfl
theorem q1970 : (Jvm.Cond.code ({ cls := "PloughWillsModel", name := "looks", desc := "()V" } : Jvm.MethodName) prog_15_method_51_code (1 : Nat) (Option.none : Option Jvm.ClassFile.FieldType)) ∈ lw_all := lw_g (lw_at lw_m8 215 rfl) rfl
theorem q1971 : (Jvm.Cond.methodLink "PloughWillsModel" (223 : Nat) ({ cls := "PloughWillsModel", name := "goesTo", desc := "(I)Z" } : Jvm.MethodName)) ∈ lw_all := lw_g (lw_at lw_m8 216 rfl) rfl
theorem q1972 : (Jvm.Cond.privateMethod ({ cls := "PloughWillsModel", name := "goesTo", desc := "(I)Z" } : Jvm.MethodName)) ∈ lw_tbl := lw_at lw_m8 217 rfl
theorem q1973 : (Jvm.Cond.instanceMethod ({ cls := "PloughWillsModel", name := "goesTo", desc := "(I)Z" } : Jvm.MethodName)) ∈ lw_all := lw_g (lw_at lw_m8 218 rfl) rfl
theorem q1974 : (Jvm.Cond.code ({ cls := "PloughWillsModel", name := "goesTo", desc := "(I)Z" } : Jvm.MethodName) prog_15_method_49_code (4 : Nat) (Option.some Jvm.ClassFile.FieldType.boolean)) ∈ lw_all := lw_g (lw_at lw_m8 219 rfl) rfl
theorem q1975 : (Jvm.Cond.methodLink "PloughWillsModel" (216 : Nat) ({ cls := "PloughWillsModel", name := "begins", desc := "()V" } : Jvm.MethodName)) ∈ lw_all := lw_g (lw_at lw_m8 220 rfl) rfl
theorem q1976 : (Jvm.Cond.privateMethod ({ cls := "PloughWillsModel", name := "begins", desc := "()V" } : Jvm.MethodName)) ∈ lw_tbl := lw_at lw_m8 221 rfl
theorem q1977 : (Jvm.Cond.instanceMethod ({ cls := "PloughWillsModel", name := "begins", desc := "()V" } : Jvm.MethodName)) ∈ lw_all := lw_g (lw_at lw_m8 222 rfl) rfl
theorem q1978 : (Jvm.Cond.code ({ cls := "PloughWillsModel", name := "begins", desc := "()V" } : Jvm.MethodName) prog_15_method_38_code (2 : Nat) (Option.none : Option Jvm.ClassFile.FieldType)) ∈ lw_all := lw_g (lw_at lw_m8 223 rfl) rfl
theorem q1979 : (Jvm.Cond.methodLink "PloughWillsModel" (219 : Nat) ({ cls := "PloughWillsModel", name := "goes", desc := "(IZ)Z" } : Jvm.MethodName)) ∈ lw_all := lw_g (lw_at lw_m8 224 rfl) rfl
theorem q1980 : (Jvm.Cond.privateMethod ({ cls := "PloughWillsModel", name := "goes", desc := "(IZ)Z" } : Jvm.MethodName)) ∈ lw_tbl := lw_at lw_m8 225 rfl
theorem q1981 : (Jvm.Cond.instanceMethod ({ cls := "PloughWillsModel", name := "goes", desc := "(IZ)Z" } : Jvm.MethodName)) ∈ lw_all := lw_g (lw_at lw_m8 226 rfl) rfl
theorem q1982 : (Jvm.Cond.code ({ cls := "PloughWillsModel", name := "goes", desc := "(IZ)Z" } : Jvm.MethodName) prog_15_method_48_code (5 : Nat) (Option.some Jvm.ClassFile.FieldType.boolean)) ∈ lw_all := lw_g (lw_at lw_m8 227 rfl) rfl
theorem q1983 : (Jvm.Cond.methodLink "PloughWillsModel" (188 : Nat) ({ cls := "PloughWillsModel", name := "errs", desc := "(III)Z" } : Jvm.MethodName)) ∈ lw_all := lw_g (lw_at lw_m8 228 rfl) rfl
theorem q1984 : (Jvm.Cond.privateMethod ({ cls := "PloughWillsModel", name := "errs", desc := "(III)Z" } : Jvm.MethodName)) ∈ lw_tbl := lw_at lw_m8 229 rfl
theorem q1985 : (Jvm.Cond.instanceMethod ({ cls := "PloughWillsModel", name := "errs", desc := "(III)Z" } : Jvm.MethodName)) ∈ lw_all := lw_g (lw_at lw_m8 230 rfl) rfl
theorem q1986 : (Jvm.Cond.code ({ cls := "PloughWillsModel", name := "errs", desc := "(III)Z" } : Jvm.MethodName) prog_15_method_39_code (4 : Nat) (Option.some Jvm.ClassFile.FieldType.boolean)) ∈ lw_all := lw_g (lw_at lw_m8 231 rfl) rfl
theorem q1987 : (Jvm.Cond.methodLink "PloughWillsModel" (195 : Nat) ({ cls := "PloughWillsModel", name := "opens", desc := "(II)V" } : Jvm.MethodName)) ∈ lw_all := lw_g (lw_at lw_m8 232 rfl) rfl
theorem q1988 : (Jvm.Cond.privateMethod ({ cls := "PloughWillsModel", name := "opens", desc := "(II)V" } : Jvm.MethodName)) ∈ lw_tbl := lw_at lw_m8 233 rfl
theorem q1989 : (Jvm.Cond.instanceMethod ({ cls := "PloughWillsModel", name := "opens", desc := "(II)V" } : Jvm.MethodName)) ∈ lw_all := lw_g (lw_at lw_m8 234 rfl) rfl
theorem q1990 : (Jvm.Cond.code ({ cls := "PloughWillsModel", name := "opens", desc := "(II)V" } : Jvm.MethodName) prog_15_method_42_code (3 : Nat) (Option.none : Option Jvm.ClassFile.FieldType)) ∈ lw_all := lw_g (lw_at lw_m8 235 rfl) rfl
theorem q1991 : (Jvm.Cond.methodLink "PloughWillsModel" (199 : Nat) ({ cls := "PloughWillsModel", name := "ended", desc := "(I)Z" } : Jvm.MethodName)) ∈ lw_all := lw_g (lw_at lw_m8 236 rfl) rfl
theorem q1992 : (Jvm.Cond.privateMethod ({ cls := "PloughWillsModel", name := "ended", desc := "(I)Z" } : Jvm.MethodName)) ∈ lw_tbl := lw_at lw_m8 237 rfl
theorem q1993 : (Jvm.Cond.instanceMethod ({ cls := "PloughWillsModel", name := "ended", desc := "(I)Z" } : Jvm.MethodName)) ∈ lw_all := lw_g (lw_at lw_m8 238 rfl) rfl
theorem q1994 : (Jvm.Cond.code ({ cls := "PloughWillsModel", name := "ended", desc := "(I)Z" } : Jvm.MethodName) prog_15_method_41_code (4 : Nat) (Option.some Jvm.ClassFile.FieldType.boolean)) ∈ lw_all := lw_g (lw_at lw_m8 239 rfl) rfl
theorem q1995 : (Jvm.Cond.methodLink "PloughWillsModel" (185 : Nat) ({ cls := "PloughWillsModel", name := "leftOf", desc := "(I)I" } : Jvm.MethodName)) ∈ lw_all := lw_g (lw_at lw_m9 0 rfl) rfl
theorem q1996 : (Jvm.Cond.privateMethod ({ cls := "PloughWillsModel", name := "leftOf", desc := "(I)I" } : Jvm.MethodName)) ∈ lw_tbl := lw_at lw_m9 1 rfl
theorem q1997 : (Jvm.Cond.instanceMethod ({ cls := "PloughWillsModel", name := "leftOf", desc := "(I)I" } : Jvm.MethodName)) ∈ lw_all := lw_g (lw_at lw_m9 2 rfl) rfl
theorem q1998 : (Jvm.Cond.code ({ cls := "PloughWillsModel", name := "leftOf", desc := "(I)I" } : Jvm.MethodName) prog_15_method_40_code (4 : Nat) (Option.some Jvm.ClassFile.FieldType.int)) ∈ lw_all := lw_g (lw_at lw_m9 3 rfl) rfl
theorem q1999 : (Jvm.Cond.methodLink "PloughWillsModel" (202 : Nat) ({ cls := "PloughWillsModel", name := "brings", desc := "(II)Z" } : Jvm.MethodName)) ∈ lw_all := lw_g (lw_at lw_m9 4 rfl) rfl
theorem q2000 : (Jvm.Cond.privateMethod ({ cls := "PloughWillsModel", name := "brings", desc := "(II)Z" } : Jvm.MethodName)) ∈ lw_tbl := lw_at lw_m9 5 rfl
theorem q2001 : (Jvm.Cond.instanceMethod ({ cls := "PloughWillsModel", name := "brings", desc := "(II)Z" } : Jvm.MethodName)) ∈ lw_all := lw_g (lw_at lw_m9 6 rfl) rfl
theorem q2002 : (Jvm.Cond.code ({ cls := "PloughWillsModel", name := "brings", desc := "(II)Z" } : Jvm.MethodName) prog_15_method_44_code (3 : Nat) (Option.some Jvm.ClassFile.FieldType.boolean)) ∈ lw_all := lw_g (lw_at lw_m9 7 rfl) rfl
theorem q2003 : (Jvm.Cond.methodLink "PloughWillsModel" (206 : Nat) ({ cls := "PloughWillsModel", name := "gives", desc := "(II)Z" } : Jvm.MethodName)) ∈ lw_all := lw_g (lw_at lw_m9 8 rfl) rfl
theorem q2004 : (Jvm.Cond.privateMethod ({ cls := "PloughWillsModel", name := "gives", desc := "(II)Z" } : Jvm.MethodName)) ∈ lw_tbl := lw_at lw_m9 9 rfl
theorem q2005 : (Jvm.Cond.instanceMethod ({ cls := "PloughWillsModel", name := "gives", desc := "(II)Z" } : Jvm.MethodName)) ∈ lw_all := lw_g (lw_at lw_m9 10 rfl) rfl
theorem q2006 : (Jvm.Cond.code ({ cls := "PloughWillsModel", name := "gives", desc := "(II)Z" } : Jvm.MethodName) prog_15_method_45_code (3 : Nat) (Option.some Jvm.ClassFile.FieldType.boolean)) ∈ lw_all := lw_g (lw_at lw_m9 11 rfl) rfl
theorem q2007 : (Jvm.Cond.methodLink "PloughWillsModel" (191 : Nat) ({ cls := "PloughWillsModel", name := "ploughsOn", desc := "(IZ)I" } : Jvm.MethodName)) ∈ lw_all := lw_g (lw_at lw_m9 12 rfl) rfl
theorem q2008 : (Jvm.Cond.privateMethod ({ cls := "PloughWillsModel", name := "ploughsOn", desc := "(IZ)I" } : Jvm.MethodName)) ∈ lw_tbl := lw_at lw_m9 13 rfl
theorem q2009 : (Jvm.Cond.instanceMethod ({ cls := "PloughWillsModel", name := "ploughsOn", desc := "(IZ)I" } : Jvm.MethodName)) ∈ lw_all := lw_g (lw_at lw_m9 14 rfl) rfl
theorem q2010 : (Jvm.Cond.code ({ cls := "PloughWillsModel", name := "ploughsOn", desc := "(IZ)I" } : Jvm.MethodName) prog_15_method_43_code (5 : Nat) (Option.some Jvm.ClassFile.FieldType.int)) ∈ lw_all := lw_g (lw_at lw_m9 15 rfl) rfl
theorem q2011 : (Jvm.Cond.methodLink "PloughWillsModel" (209 : Nat) ({ cls := "PloughWillsModel", name := "puts", desc := "(IIIZ)Z" } : Jvm.MethodName)) ∈ lw_all := lw_g (lw_at lw_m9 16 rfl) rfl
theorem q2012 : (Jvm.Cond.privateMethod ({ cls := "PloughWillsModel", name := "puts", desc := "(IIIZ)Z" } : Jvm.MethodName)) ∈ lw_tbl := lw_at lw_m9 17 rfl
theorem q2013 : (Jvm.Cond.instanceMethod ({ cls := "PloughWillsModel", name := "puts", desc := "(IIIZ)Z" } : Jvm.MethodName)) ∈ lw_all := lw_g (lw_at lw_m9 18 rfl) rfl
theorem q2014 : (Jvm.Cond.code ({ cls := "PloughWillsModel", name := "puts", desc := "(IIIZ)Z" } : Jvm.MethodName) prog_15_method_46_code (5 : Nat) (Option.some Jvm.ClassFile.FieldType.boolean)) ∈ lw_all := lw_g (lw_at lw_m9 19 rfl) rfl
theorem q2015 : (Jvm.Cond.methodLink "PloughWillsModel" (213 : Nat) ({ cls := "PloughWillsModel", name := "meets", desc := "(I)Z" } : Jvm.MethodName)) ∈ lw_all := lw_g (lw_at lw_m9 20 rfl) rfl
theorem q2016 : (Jvm.Cond.privateMethod ({ cls := "PloughWillsModel", name := "meets", desc := "(I)Z" } : Jvm.MethodName)) ∈ lw_tbl := lw_at lw_m9 21 rfl
theorem q2017 : (Jvm.Cond.instanceMethod ({ cls := "PloughWillsModel", name := "meets", desc := "(I)Z" } : Jvm.MethodName)) ∈ lw_all := lw_g (lw_at lw_m9 22 rfl) rfl
theorem q2018 : (Jvm.Cond.code ({ cls := "PloughWillsModel", name := "meets", desc := "(I)Z" } : Jvm.MethodName) prog_15_method_47_code (6 : Nat) (Option.some Jvm.ClassFile.FieldType.boolean)) ∈ lw_all := lw_g (lw_at lw_m9 23 rfl) rfl
theorem q2019 : (Jvm.Cond.methodLink "PloughWillsModel" (226 : Nat) ({ cls := "PloughWillsModel", name := "finishes", desc := "()V" } : Jvm.MethodName)) ∈ lw_all := lw_g (lw_at lw_m9 24 rfl) rfl
theorem q2020 : (Jvm.Cond.privateMethod ({ cls := "PloughWillsModel", name := "finishes", desc := "()V" } : Jvm.MethodName)) ∈ lw_tbl := lw_at lw_m9 25 rfl
theorem q2021 : (Jvm.Cond.instanceMethod ({ cls := "PloughWillsModel", name := "finishes", desc := "()V" } : Jvm.MethodName)) ∈ lw_all := lw_g (lw_at lw_m9 26 rfl) rfl
theorem q2022 : (Jvm.Cond.code ({ cls := "PloughWillsModel", name := "finishes", desc := "()V" } : Jvm.MethodName) prog_15_method_50_code (3 : Nat) (Option.none : Option Jvm.ClassFile.FieldType)) ∈ lw_all := lw_g (lw_at lw_m9 27 rfl) rfl
theorem q2024 : (Jvm.Cond.instanceMethod ({ cls := "PloughWillsModel", name := "isSound", desc := "(Z)Z" } : Jvm.MethodName)) ∈ lw_all := lw_g (lw_at lw_m9 29 rfl) rfl
theorem q2025 : (Jvm.Cond.selects "PloughWillsModel" ({ cls := "PloughWillsModel", name := "isSound", desc := "(Z)Z" } : Jvm.MethodName) ({ cls := "PloughWillsModel", name := "isSound", desc := "(Z)Z" } : Jvm.MethodName)) ∈ lw_all := lw_g (lw_at lw_m9 30 rfl) rfl
theorem q2026 : (Jvm.Cond.code ({ cls := "PloughWillsModel", name := "isSound", desc := "(Z)Z" } : Jvm.MethodName) prog_15_method_53_code (2 : Nat) (Option.some Jvm.ClassFile.FieldType.boolean)) ∈ lw_all := lw_g (lw_at lw_m9 31 rfl) rfl
theorem q2028 : (Jvm.Cond.instanceMethod ({ cls := "PloughWillsModel", name := "goodAt", desc := "(II)I" } : Jvm.MethodName)) ∈ lw_all := lw_g (lw_at lw_m9 33 rfl) rfl
theorem q2029 : (Jvm.Cond.selects "PloughWillsModel" ({ cls := "PloughWillsModel", name := "goodAt", desc := "(II)I" } : Jvm.MethodName) ({ cls := "PloughWillsModel", name := "goodAt", desc := "(II)I" } : Jvm.MethodName)) ∈ lw_all := lw_g (lw_at lw_m9 34 rfl) rfl
theorem q2030 : (Jvm.Cond.code ({ cls := "PloughWillsModel", name := "goodAt", desc := "(II)I" } : Jvm.MethodName) prog_15_method_54_code (3 : Nat) (Option.some Jvm.ClassFile.FieldType.int)) ∈ lw_all := lw_g (lw_at lw_m9 35 rfl) rfl
theorem q2032 : (Jvm.Cond.instanceMethod ({ cls := "PloughWillsModel", name := "ploughAt", desc := "(II)I" } : Jvm.MethodName)) ∈ lw_all := lw_g (lw_at lw_m9 37 rfl) rfl
theorem q2033 : (Jvm.Cond.selects "PloughWillsModel" ({ cls := "PloughWillsModel", name := "ploughAt", desc := "(II)I" } : Jvm.MethodName) ({ cls := "PloughWillsModel", name := "ploughAt", desc := "(II)I" } : Jvm.MethodName)) ∈ lw_all := lw_g (lw_at lw_m9 38 rfl) rfl
theorem q2034 : (Jvm.Cond.code ({ cls := "PloughWillsModel", name := "ploughAt", desc := "(II)I" } : Jvm.MethodName) prog_15_method_55_code (3 : Nat) (Option.some Jvm.ClassFile.FieldType.int)) ∈ lw_all := lw_g (lw_at lw_m9 39 rfl) rfl
theorem q2036 : (Jvm.Cond.instanceMethod ({ cls := "PloughWillsModel", name := "paths", desc := "()I" } : Jvm.MethodName)) ∈ lw_all := lw_g (lw_at lw_m9 41 rfl) rfl
theorem q2037 : (Jvm.Cond.selects "PloughWillsModel" ({ cls := "PloughWillsModel", name := "paths", desc := "()I" } : Jvm.MethodName) ({ cls := "PloughWillsModel", name := "paths", desc := "()I" } : Jvm.MethodName)) ∈ lw_all := lw_g (lw_at lw_m9 42 rfl) rfl
theorem q2038 : (Jvm.Cond.code ({ cls := "PloughWillsModel", name := "paths", desc := "()I" } : Jvm.MethodName) prog_15_method_62_code (1 : Nat) (Option.some Jvm.ClassFile.FieldType.int)) ∈ lw_all := lw_g (lw_at lw_m9 43 rfl) rfl
theorem q2039 : (Jvm.Cond.methodLink "PloughWillsModel" (245 : Nat) ({ cls := "PloughWillsModel", name := "pathMany", desc := "()I" } : Jvm.MethodName)) ∈ lw_all := lw_g (lw_at lw_m9 44 rfl) rfl
theorem q2040 : (Jvm.Cond.privateMethod ({ cls := "PloughWillsModel", name := "pathMany", desc := "()I" } : Jvm.MethodName)) ∈ lw_tbl := lw_at lw_m9 45 rfl
theorem q2041 : (Jvm.Cond.instanceMethod ({ cls := "PloughWillsModel", name := "pathMany", desc := "()I" } : Jvm.MethodName)) ∈ lw_all := lw_g (lw_at lw_m9 46 rfl) rfl
theorem q2042 : (Jvm.Cond.code ({ cls := "PloughWillsModel", name := "pathMany", desc := "()I" } : Jvm.MethodName) prog_15_method_57_code (1 : Nat) (Option.some Jvm.ClassFile.FieldType.int)) ∈ lw_all := lw_g (lw_at lw_m9 47 rfl) rfl
theorem q2043 : (Jvm.Cond.methodLink "PloughWillsModel" (232 : Nat) ({ cls := "PloughWillsModel", name := "count", desc := "(II)I" } : Jvm.MethodName)) ∈ lw_all := lw_g (lw_at lw_m9 48 rfl) rfl
theorem q2044 : (Jvm.Cond.privateMethod ({ cls := "PloughWillsModel", name := "count", desc := "(II)I" } : Jvm.MethodName)) ∈ lw_tbl := lw_at lw_m9 49 rfl
theorem q2045 : (Jvm.Cond.instanceMethod ({ cls := "PloughWillsModel", name := "count", desc := "(II)I" } : Jvm.MethodName)) ∈ lw_all := lw_g (lw_at lw_m9 50 rfl) rfl
theorem q2046 : (Jvm.Cond.code ({ cls := "PloughWillsModel", name := "count", desc := "(II)I" } : Jvm.MethodName) prog_15_method_56_code (5 : Nat) (Option.some Jvm.ClassFile.FieldType.int)) ∈ lw_all := lw_g (lw_at lw_m9 51 rfl) rfl
theorem q2048 : (Jvm.Cond.instanceMethod ({ cls := "PloughWillsModel", name := "pathOf", desc := "(II)I" } : Jvm.MethodName)) ∈ lw_all := lw_g (lw_at lw_m9 53 rfl) rfl
theorem q2049 : (Jvm.Cond.selects "PloughWillsModel" ({ cls := "PloughWillsModel", name := "pathOf", desc := "(II)I" } : Jvm.MethodName) ({ cls := "PloughWillsModel", name := "pathOf", desc := "(II)I" } : Jvm.MethodName)) ∈ lw_all := lw_g (lw_at lw_m9 54 rfl) rfl
theorem q2050 : (Jvm.Cond.code ({ cls := "PloughWillsModel", name := "pathOf", desc := "(II)I" } : Jvm.MethodName) prog_15_method_63_code (3 : Nat) (Option.some Jvm.ClassFile.FieldType.int)) ∈ lw_all := lw_g (lw_at lw_m9 55 rfl) rfl
theorem q2051 : (Jvm.Cond.methodLink "PloughWillsModel" (249 : Nat) ({ cls := "PloughWillsModel", name := "marksPath", desc := "(I)V" } : Jvm.MethodName)) ∈ lw_all := lw_g (lw_at lw_m9 56 rfl) rfl
theorem q2052 : (Jvm.Cond.privateMethod ({ cls := "PloughWillsModel", name := "marksPath", desc := "(I)V" } : Jvm.MethodName)) ∈ lw_tbl := lw_at lw_m9 57 rfl
theorem q2053 : (Jvm.Cond.instanceMethod ({ cls := "PloughWillsModel", name := "marksPath", desc := "(I)V" } : Jvm.MethodName)) ∈ lw_all := lw_g (lw_at lw_m9 58 rfl) rfl
theorem q2054 : (Jvm.Cond.code ({ cls := "PloughWillsModel", name := "marksPath", desc := "(I)V" } : Jvm.MethodName) prog_15_method_59_code (3 : Nat) (Option.none : Option Jvm.ClassFile.FieldType)) ∈ lw_all := lw_g (lw_at lw_m9 59 rfl) rfl
theorem q2055 : (Jvm.Cond.methodLink "PloughWillsModel" (241 : Nat) ({ cls := "PloughWillsModel", name := "marks", desc := "(III)V" } : Jvm.MethodName)) ∈ lw_all := lw_g (lw_at lw_m9 60 rfl) rfl
theorem q2056 : (Jvm.Cond.privateMethod ({ cls := "PloughWillsModel", name := "marks", desc := "(III)V" } : Jvm.MethodName)) ∈ lw_tbl := lw_at lw_m9 61 rfl
theorem q2057 : (Jvm.Cond.instanceMethod ({ cls := "PloughWillsModel", name := "marks", desc := "(III)V" } : Jvm.MethodName)) ∈ lw_all := lw_g (lw_at lw_m9 62 rfl) rfl
theorem q2058 : (Jvm.Cond.code ({ cls := "PloughWillsModel", name := "marks", desc := "(III)V" } : Jvm.MethodName) prog_15_method_58_code (9 : Nat) (Option.none : Option Jvm.ClassFile.FieldType)) ∈ lw_all := lw_g (lw_at lw_m9 63 rfl) rfl
theorem q2059 : (Jvm.Cond.methodLink "PloughWillsModel" (253 : Nat) ({ cls := "PloughWillsModel", name := "sumOf", desc := "(Z)I" } : Jvm.MethodName)) ∈ lw_all := lw_g (lw_at lw_m9 64 rfl) rfl
theorem q2060 : (Jvm.Cond.privateMethod ({ cls := "PloughWillsModel", name := "sumOf", desc := "(Z)I" } : Jvm.MethodName)) ∈ lw_tbl := lw_at lw_m9 65 rfl
theorem q2061 : (Jvm.Cond.instanceMethod ({ cls := "PloughWillsModel", name := "sumOf", desc := "(Z)I" } : Jvm.MethodName)) ∈ lw_all := lw_g (lw_at lw_m9 66 rfl) rfl
theorem q2062 : (Jvm.Cond.code ({ cls := "PloughWillsModel", name := "sumOf", desc := "(Z)I" } : Jvm.MethodName) prog_15_method_60_code (5 : Nat) (Option.some Jvm.ClassFile.FieldType.int)) ∈ lw_all := lw_g (lw_at lw_m9 67 rfl) rfl
theorem q2063 : (Jvm.Cond.methodLink "PloughWillsModel" (257 : Nat) ({ cls := "PloughWillsModel", name := "looksOn", desc := "()V" } : Jvm.MethodName)) ∈ lw_all := lw_g (lw_at lw_m9 68 rfl) rfl
theorem q2064 : (Jvm.Cond.privateMethod ({ cls := "PloughWillsModel", name := "looksOn", desc := "()V" } : Jvm.MethodName)) ∈ lw_tbl := lw_at lw_m9 69 rfl
theorem q2065 : (Jvm.Cond.instanceMethod ({ cls := "PloughWillsModel", name := "looksOn", desc := "()V" } : Jvm.MethodName)) ∈ lw_all := lw_g (lw_at lw_m9 70 rfl) rfl
theorem q2066 : (Jvm.Cond.code ({ cls := "PloughWillsModel", name := "looksOn", desc := "()V" } : Jvm.MethodName) prog_15_method_61_code (3 : Nat) (Option.none : Option Jvm.ClassFile.FieldType)) ∈ lw_all := lw_g (lw_at lw_m9 71 rfl) rfl
theorem q2068 : (Jvm.Cond.instanceMethod ({ cls := "PloughWillsModel", name := "goesBy", desc := "(II)Z" } : Jvm.MethodName)) ∈ lw_all := lw_g (lw_at lw_m9 73 rfl) rfl
theorem q2069 : (Jvm.Cond.selects "PloughWillsModel" ({ cls := "PloughWillsModel", name := "goesBy", desc := "(II)Z" } : Jvm.MethodName) ({ cls := "PloughWillsModel", name := "goesBy", desc := "(II)Z" } : Jvm.MethodName)) ∈ lw_all := lw_g (lw_at lw_m9 74 rfl) rfl
theorem q2070 : (Jvm.Cond.code ({ cls := "PloughWillsModel", name := "goesBy", desc := "(II)Z" } : Jvm.MethodName) prog_15_method_64_code (3 : Nat) (Option.some Jvm.ClassFile.FieldType.boolean)) ∈ lw_all := lw_g (lw_at lw_m9 75 rfl) rfl
theorem q2072 : (Jvm.Cond.instanceMethod ({ cls := "PloughWillsModel", name := "worth", desc := "(ZZ)I" } : Jvm.MethodName)) ∈ lw_all := lw_g (lw_at lw_m9 77 rfl) rfl
theorem q2073 : (Jvm.Cond.selects "PloughWillsModel" ({ cls := "PloughWillsModel", name := "worth", desc := "(ZZ)I" } : Jvm.MethodName) ({ cls := "PloughWillsModel", name := "worth", desc := "(ZZ)I" } : Jvm.MethodName)) ∈ lw_all := lw_g (lw_at lw_m9 78 rfl) rfl
theorem q2074 : (Jvm.Cond.code ({ cls := "PloughWillsModel", name := "worth", desc := "(ZZ)I" } : Jvm.MethodName) prog_15_method_65_code (7 : Nat) (Option.some Jvm.ClassFile.FieldType.int)) ∈ lw_all := lw_g (lw_at lw_m9 79 rfl) rfl
theorem q2075 : (Jvm.Cond.methodLink "PloughWillsModel" (260 : Nat) ({ cls := "java/lang/Math", name := "min", desc := "(II)I" } : Jvm.MethodName)) ∈ lw_all := lw_g (lw_at lw_m9 80 rfl) rfl
theorem q2077 : (Jvm.Cond.instanceMethod ({ cls := "PloughWillsModel", name := "tithes", desc := "(I)F" } : Jvm.MethodName)) ∈ lw_all := lw_g (lw_at lw_m9 82 rfl) rfl
theorem q2078 : (Jvm.Cond.selects "PloughWillsModel" ({ cls := "PloughWillsModel", name := "tithes", desc := "(I)F" } : Jvm.MethodName) ({ cls := "PloughWillsModel", name := "tithes", desc := "(I)F" } : Jvm.MethodName)) ∈ lw_all := lw_g (lw_at lw_m9 83 rfl) rfl
theorem q2079 : (Jvm.Cond.code ({ cls := "PloughWillsModel", name := "tithes", desc := "(I)F" } : Jvm.MethodName) prog_15_method_67_code (2 : Nat) (Option.some Jvm.ClassFile.FieldType.float)) ∈ lw_all := lw_g (lw_at lw_m9 84 rfl) rfl
theorem q2080 : (Jvm.Cond.methodLink "PloughWillsModel" (263 : Nat) ({ cls := "PloughWillsModel", name := "tithesOf", desc := "(I)F" } : Jvm.MethodName)) ∈ lw_all := lw_g (lw_at lw_m9 85 rfl) rfl
theorem q2081 : (Jvm.Cond.privateMethod ({ cls := "PloughWillsModel", name := "tithesOf", desc := "(I)F" } : Jvm.MethodName)) ∈ lw_tbl := lw_at lw_m9 86 rfl
theorem q2082 : (Jvm.Cond.instanceMethod ({ cls := "PloughWillsModel", name := "tithesOf", desc := "(I)F" } : Jvm.MethodName)) ∈ lw_all := lw_g (lw_at lw_m9 87 rfl) rfl
theorem q2083 : (Jvm.Cond.code ({ cls := "PloughWillsModel", name := "tithesOf", desc := "(I)F" } : Jvm.MethodName) prog_15_method_66_code (4 : Nat) (Option.some Jvm.ClassFile.FieldType.float)) ∈ lw_all := lw_g (lw_at lw_m9 88 rfl) rfl
theorem q2085 : (Jvm.Cond.instanceMethod ({ cls := "PloughWillsModel", name := "richest", desc := "()I" } : Jvm.MethodName)) ∈ lw_all := lw_g (lw_at lw_m9 90 rfl) rfl
theorem q2086 : (Jvm.Cond.selects "PloughWillsModel" ({ cls := "PloughWillsModel", name := "richest", desc := "()I" } : Jvm.MethodName) ({ cls := "PloughWillsModel", name := "richest", desc := "()I" } : Jvm.MethodName)) ∈ lw_all := lw_g (lw_at lw_m9 91 rfl) rfl
theorem q2087 : (Jvm.Cond.code ({ cls := "PloughWillsModel", name := "richest", desc := "()I" } : Jvm.MethodName) prog_15_method_68_code (4 : Nat) (Option.some Jvm.ClassFile.FieldType.int)) ∈ lw_all := lw_g (lw_at lw_m9 92 rfl) rfl
theorem q2089 : (Jvm.Cond.instanceMethod ({ cls := "PloughWillsModel", name := "line", desc := "()I" } : Jvm.MethodName)) ∈ lw_all := lw_g (lw_at lw_m9 94 rfl) rfl
theorem q2090 : (Jvm.Cond.selects "PloughWillsModel" ({ cls := "PloughWillsModel", name := "line", desc := "()I" } : Jvm.MethodName) ({ cls := "PloughWillsModel", name := "line", desc := "()I" } : Jvm.MethodName)) ∈ lw_all := lw_g (lw_at lw_m9 95 rfl) rfl
theorem q2091 : (Jvm.Cond.code ({ cls := "PloughWillsModel", name := "line", desc := "()I" } : Jvm.MethodName) prog_15_method_70_code (3 : Nat) (Option.some Jvm.ClassFile.FieldType.int)) ∈ lw_all := lw_g (lw_at lw_m9 96 rfl) rfl
theorem q2092 : (Jvm.Cond.stringRef "PloughWillsModel" (269 : Nat) "()bguwp[|]") ∈ lw_tbl := lw_at lw_m9 97 rfl
theorem q2093 : (Jvm.Cond.methodLink "PloughWillsModel" (271 : Nat) ({ cls := "java/lang/String", name := "charAt", desc := "(I)C" } : Jvm.MethodName)) ∈ lw_all := lw_g (lw_at lw_m9 98 rfl) rfl
theorem q2094 : (Jvm.Cond.methodLink "PloughWillsModel" (277 : Nat) ({ cls := "PloughWillsModel", name := "says", desc := "(C)V" } : Jvm.MethodName)) ∈ lw_all := lw_g (lw_at lw_m9 99 rfl) rfl
theorem q2095 : (Jvm.Cond.privateMethod ({ cls := "PloughWillsModel", name := "says", desc := "(C)V" } : Jvm.MethodName)) ∈ lw_tbl := lw_at lw_m9 100 rfl
theorem q2096 : (Jvm.Cond.instanceMethod ({ cls := "PloughWillsModel", name := "says", desc := "(C)V" } : Jvm.MethodName)) ∈ lw_all := lw_g (lw_at lw_m9 101 rfl) rfl
theorem q2097 : (Jvm.Cond.code ({ cls := "PloughWillsModel", name := "says", desc := "(C)V" } : Jvm.MethodName) prog_15_method_69_code (2 : Nat) (Option.none : Option Jvm.ClassFile.FieldType)) ∈ lw_all := lw_g (lw_at lw_m9 102 rfl) rfl
theorem q2099 : (Jvm.Cond.instanceMethod ({ cls := "PloughWillsModel", name := "character", desc := "(I)C" } : Jvm.MethodName)) ∈ lw_all := lw_g (lw_at lw_m9 104 rfl) rfl
theorem q2100 : (Jvm.Cond.selects "PloughWillsModel" ({ cls := "PloughWillsModel", name := "character", desc := "(I)C" } : Jvm.MethodName) ({ cls := "PloughWillsModel", name := "character", desc := "(I)C" } : Jvm.MethodName)) ∈ lw_all := lw_g (lw_at lw_m9 105 rfl) rfl
theorem q2101 : (Jvm.Cond.code ({ cls := "PloughWillsModel", name := "character", desc := "(I)C" } : Jvm.MethodName) prog_15_method_71_code (2 : Nat) (Option.some Jvm.ClassFile.FieldType.char)) ∈ lw_all := lw_g (lw_at lw_m9 106 rfl) rfl
theorem q2103 : (Jvm.Cond.instanceMethod ({ cls := "PloughWillsModel", name := "append", desc := "(C)I" } : Jvm.MethodName)) ∈ lw_all := lw_g (lw_at lw_m9 108 rfl) rfl
theorem q2104 : (Jvm.Cond.selects "PloughWillsModel" ({ cls := "PloughWillsModel", name := "append", desc := "(C)I" } : Jvm.MethodName) ({ cls := "PloughWillsModel", name := "append", desc := "(C)I" } : Jvm.MethodName)) ∈ lw_all := lw_g (lw_at lw_m9 109 rfl) rfl
theorem q2105 : (Jvm.Cond.code ({ cls := "PloughWillsModel", name := "append", desc := "(C)I" } : Jvm.MethodName) prog_15_method_72_code (2 : Nat) (Option.some Jvm.ClassFile.FieldType.int)) ∈ lw_all := lw_g (lw_at lw_m9 110 rfl) rfl
theorem q2107 : (Jvm.Cond.instanceMethod ({ cls := "PloughWillsModel", name := "read", desc := "()I" } : Jvm.MethodName)) ∈ lw_all := lw_g (lw_at lw_m9 112 rfl) rfl
theorem q2108 : (Jvm.Cond.selects "PloughWillsModel" ({ cls := "PloughWillsModel", name := "read", desc := "()I" } : Jvm.MethodName) ({ cls := "PloughWillsModel", name := "read", desc := "()I" } : Jvm.MethodName)) ∈ lw_all := lw_g (lw_at lw_m9 113 rfl) rfl
theorem q2109 : (Jvm.Cond.code ({ cls := "PloughWillsModel", name := "read", desc := "()I" } : Jvm.MethodName) prog_15_method_75_code (3 : Nat) (Option.some Jvm.ClassFile.FieldType.int)) ∈ lw_all := lw_g (lw_at lw_m9 114 rfl) rfl
theorem q2110 : (Jvm.Cond.methodLink "PloughWillsModel" (288 : Nat) ({ cls := "PloughWillsModel", name := "reads", desc := "()I" } : Jvm.MethodName)) ∈ lw_all := lw_g (lw_at lw_m9 115 rfl) rfl
theorem q2111 : (Jvm.Cond.privateMethod ({ cls := "PloughWillsModel", name := "reads", desc := "()I" } : Jvm.MethodName)) ∈ lw_tbl := lw_at lw_m9 116 rfl
theorem q2112 : (Jvm.Cond.instanceMethod ({ cls := "PloughWillsModel", name := "reads", desc := "()I" } : Jvm.MethodName)) ∈ lw_all := lw_g (lw_at lw_m9 117 rfl) rfl
theorem q2113 : (Jvm.Cond.code ({ cls := "PloughWillsModel", name := "reads", desc := "()I" } : Jvm.MethodName) prog_15_method_74_code (7 : Nat) (Option.some Jvm.ClassFile.FieldType.int)) ∈ lw_all := lw_g (lw_at lw_m9 118 rfl) rfl
theorem q2114 : (Jvm.Cond.methodLink "PloughWillsModel" (284 : Nat) ({ cls := "PloughWillsModel", name := "sortOf", desc := "(C)I" } : Jvm.MethodName)) ∈ lw_all := lw_g (lw_at lw_m9 119 rfl) rfl
theorem q2115 : (Jvm.Cond.static ({ cls := "PloughWillsModel", name := "sortOf", desc := "(C)I" } : Jvm.MethodName)) ∈ lw_all := lw_g (lw_at lw_m9 120 rfl) rfl
theorem q2116 : (Jvm.Cond.code ({ cls := "PloughWillsModel", name := "sortOf", desc := "(C)I" } : Jvm.MethodName) prog_15_method_73_code (3 : Nat) (Option.some Jvm.ClassFile.FieldType.int)) ∈ lw_all := lw_g (lw_at lw_m9 121 rfl) rfl
theorem q2118 : (Jvm.Cond.instanceMethod ({ cls := "PloughWillsModel", name := "errorPosition", desc := "()I" } : Jvm.MethodName)) ∈ lw_all := lw_g (lw_at lw_m9 123 rfl) rfl
theorem q2119 : (Jvm.Cond.selects "PloughWillsModel" ({ cls := "PloughWillsModel", name := "errorPosition", desc := "()I" } : Jvm.MethodName) ({ cls := "PloughWillsModel", name := "errorPosition", desc := "()I" } : Jvm.MethodName)) ∈ lw_all := lw_g (lw_at lw_m9 124 rfl) rfl
theorem q2120 : (Jvm.Cond.code ({ cls := "PloughWillsModel", name := "errorPosition", desc := "()I" } : Jvm.MethodName) prog_15_method_76_code (1 : Nat) (Option.some Jvm.ClassFile.FieldType.int)) ∈ lw_all := lw_g (lw_at lw_m9 125 rfl) rfl
theorem q2122 : (Jvm.Cond.instanceMethod ({ cls := "PloughWillsModel", name := "account", desc := "(I)I" } : Jvm.MethodName)) ∈ lw_all := lw_g (lw_at lw_m9 127 rfl) rfl
theorem q2123 : (Jvm.Cond.selects "PloughWillsModel" ({ cls := "PloughWillsModel", name := "account", desc := "(I)I" } : Jvm.MethodName) ({ cls := "PloughWillsModel", name := "account", desc := "(I)I" } : Jvm.MethodName)) ∈ lw_all := lw_g (lw_at lw_m9 128 rfl) rfl
theorem q2124 : (Jvm.Cond.code ({ cls := "PloughWillsModel", name := "account", desc := "(I)I" } : Jvm.MethodName) prog_15_method_79_code (2 : Nat) (Option.some Jvm.ClassFile.FieldType.int)) ∈ lw_all := lw_g (lw_at lw_m9 129 rfl) rfl
theorem q2125 : (Jvm.Cond.methodLink "PloughWillsModel" (291 : Nat) ({ cls := "PloughWillsModel", name := "allWorth", desc := "()I" } : Jvm.MethodName)) ∈ lw_all := lw_g (lw_at lw_m9 130 rfl) rfl
theorem q2126 : (Jvm.Cond.privateMethod ({ cls := "PloughWillsModel", name := "allWorth", desc := "()I" } : Jvm.MethodName)) ∈ lw_tbl := lw_at lw_m9 131 rfl
theorem q2127 : (Jvm.Cond.instanceMethod ({ cls := "PloughWillsModel", name := "allWorth", desc := "()I" } : Jvm.MethodName)) ∈ lw_all := lw_g (lw_at lw_m9 132 rfl) rfl
theorem q2128 : (Jvm.Cond.code ({ cls := "PloughWillsModel", name := "allWorth", desc := "()I" } : Jvm.MethodName) prog_15_method_78_code (3 : Nat) (Option.some Jvm.ClassFile.FieldType.int)) ∈ lw_all := lw_g (lw_at lw_m9 133 rfl) rfl
theorem q2129 : (Jvm.Cond.methodLink "PloughWillsModel" (294 : Nat) ({ cls := "PloughWillsModel", name := "choices", desc := "()I" } : Jvm.MethodName)) ∈ lw_all := lw_g (lw_at lw_m9 134 rfl) rfl
theorem q2130 : (Jvm.Cond.privateMethod ({ cls := "PloughWillsModel", name := "choices", desc := "()I" } : Jvm.MethodName)) ∈ lw_tbl := lw_at lw_m9 135 rfl
theorem q2131 : (Jvm.Cond.instanceMethod ({ cls := "PloughWillsModel", name := "choices", desc := "()I" } : Jvm.MethodName)) ∈ lw_all := lw_g (lw_at lw_m9 136 rfl) rfl
theorem q2132 : (Jvm.Cond.code ({ cls := "PloughWillsModel", name := "choices", desc := "()I" } : Jvm.MethodName) prog_15_method_77_code (3 : Nat) (Option.some Jvm.ClassFile.FieldType.int)) ∈ lw_all := lw_g (lw_at lw_m9 137 rfl) rfl
theorem q2134 : (Jvm.Cond.instanceMethod ({ cls := "PloughWillsModel", name := "isWell", desc := "()Z" } : Jvm.MethodName)) ∈ lw_all := lw_g (lw_at lw_m9 139 rfl) rfl
theorem q2135 : (Jvm.Cond.selects "PloughWillsModel" ({ cls := "PloughWillsModel", name := "isWell", desc := "()Z" } : Jvm.MethodName) ({ cls := "PloughWillsModel", name := "isWell", desc := "()Z" } : Jvm.MethodName)) ∈ lw_all := lw_g (lw_at lw_m9 140 rfl) rfl
theorem q2136 : (Jvm.Cond.code ({ cls := "PloughWillsModel", name := "isWell", desc := "()Z" } : Jvm.MethodName) prog_15_method_80_code (4 : Nat) (Option.some Jvm.ClassFile.FieldType.boolean)) ∈ lw_all := lw_g (lw_at lw_m9 141 rfl) rfl
theorem q2138 : (Jvm.Cond.instanceMethod ({ cls := "PloughWillsModel", name := "meanWorth", desc := "()D" } : Jvm.MethodName)) ∈ lw_all := lw_g (lw_at lw_m9 143 rfl) rfl
theorem q2139 : (Jvm.Cond.selects "PloughWillsModel" ({ cls := "PloughWillsModel", name := "meanWorth", desc := "()D" } : Jvm.MethodName) ({ cls := "PloughWillsModel", name := "meanWorth", desc := "()D" } : Jvm.MethodName)) ∈ lw_all := lw_g (lw_at lw_m9 144 rfl) rfl
theorem q2140 : (Jvm.Cond.code ({ cls := "PloughWillsModel", name := "meanWorth", desc := "()D" } : Jvm.MethodName) prog_15_method_81_code (1 : Nat) (Option.some Jvm.ClassFile.FieldType.double)) ∈ lw_all := lw_g (lw_at lw_m9 145 rfl) rfl
theorem q2142 : (Jvm.Cond.instanceMethod ({ cls := "PloughWillsModel", name := "undo", desc := "()I" } : Jvm.MethodName)) ∈ lw_all := lw_g (lw_at lw_m9 147 rfl) rfl
theorem q2143 : (Jvm.Cond.selects "PloughWillsModel" ({ cls := "PloughWillsModel", name := "undo", desc := "()I" } : Jvm.MethodName) ({ cls := "PloughWillsModel", name := "undo", desc := "()I" } : Jvm.MethodName)) ∈ lw_all := lw_g (lw_at lw_m9 148 rfl) rfl
theorem q2144 : (Jvm.Cond.code ({ cls := "PloughWillsModel", name := "undo", desc := "()I" } : Jvm.MethodName) prog_15_method_82_code (1 : Nat) (Option.some Jvm.ClassFile.FieldType.int)) ∈ lw_all := lw_g (lw_at lw_m9 149 rfl) rfl
theorem q2146 : (Jvm.Cond.instanceMethod ({ cls := "PloughWillsModel", name := "save", desc := "()I" } : Jvm.MethodName)) ∈ lw_all := lw_g (lw_at lw_m9 151 rfl) rfl
theorem q2147 : (Jvm.Cond.selects "PloughWillsModel" ({ cls := "PloughWillsModel", name := "save", desc := "()I" } : Jvm.MethodName) ({ cls := "PloughWillsModel", name := "save", desc := "()I" } : Jvm.MethodName)) ∈ lw_all := lw_g (lw_at lw_m9 152 rfl) rfl
theorem q2148 : (Jvm.Cond.code ({ cls := "PloughWillsModel", name := "save", desc := "()I" } : Jvm.MethodName) prog_15_method_83_code (1 : Nat) (Option.some Jvm.ClassFile.FieldType.int)) ∈ lw_all := lw_g (lw_at lw_m9 153 rfl) rfl
theorem q2150 : (Jvm.Cond.instanceMethod ({ cls := "PloughWillsModel", name := "restore", desc := "()I" } : Jvm.MethodName)) ∈ lw_all := lw_g (lw_at lw_m9 155 rfl) rfl
theorem q2151 : (Jvm.Cond.selects "PloughWillsModel" ({ cls := "PloughWillsModel", name := "restore", desc := "()I" } : Jvm.MethodName) ({ cls := "PloughWillsModel", name := "restore", desc := "()I" } : Jvm.MethodName)) ∈ lw_all := lw_g (lw_at lw_m9 156 rfl) rfl
theorem q2152 : (Jvm.Cond.code ({ cls := "PloughWillsModel", name := "restore", desc := "()I" } : Jvm.MethodName) prog_15_method_84_code (1 : Nat) (Option.some Jvm.ClassFile.FieldType.int)) ∈ lw_all := lw_g (lw_at lw_m9 157 rfl) rfl
theorem q2185 : (Jvm.Cond.castable "PloughWillsModel" "java/lang/Object") ∈ lw_tbl := lw_at lw_m9 190 rfl
theorem in_X8 : ∀ w ∈ wsX80, w ∈ lw_all := lw_in wsX80 [1756, 1758, 1760, 1762, 1764, 1766, 1768, 1770, 1772, 1774, 1776, 1778, 1780, 1782, 1784, 1786, 1788, 1790, 1792, 1794, 1796, 1798, 1800, 1802, 1804, 1806, 1808, 1810, 1812, 1814, 1816] (by decide +kernel) (by decide +kernel)
