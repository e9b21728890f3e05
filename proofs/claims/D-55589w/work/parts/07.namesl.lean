/-! PloughWillsLaw -/
set_option maxRecDepth 100000
def RX0 : String := "PloughWillsLaw"
abbrev cX0_good : ByteArray := method_3_code
def yX0_good : MethodName := ⟨RX0, "good", "(LPloughWills;II[J)I"⟩
def dkwX0_good_0 : List UInt8 := [45, 3, 42, 27, 28, 182, 0, 7, 133, 80, 167, 0, 11, 58, 4, 4, 172, 58, 4, 5, 172, 3, 172]
abbrev dktX0_good_0 : List UInt8 := dkwX0_good_0 ++ []
theorem dksX0_good_0 : cX0_good.data.toList.drop 0 = dktX0_good_0 := by decide +kernel
theorem dX0_good_0 : decode cX0_good 0 = .ok (.aload_n 3, 1) := dk_45 (dk_at dksX0_good_0 0 rfl rfl)
theorem dX0_good_1 : decode cX0_good 1 = .ok (.iconst 0, 1) := dk_3 (dk_at dksX0_good_0 1 rfl rfl)
theorem dX0_good_2 : decode cX0_good 2 = .ok (.aload_n 0, 1) := dk_42 (dk_at dksX0_good_0 2 rfl rfl)
theorem dX0_good_3 : decode cX0_good 3 = .ok (.iload_n 1, 1) := dk_27 (dk_at dksX0_good_0 3 rfl rfl)
theorem dX0_good_4 : decode cX0_good 4 = .ok (.iload_n 2, 1) := dk_28 (dk_at dksX0_good_0 4 rfl rfl)
theorem dX0_good_5 : decode cX0_good 5 = .ok (.invokevirtual 7, 3) := dk_182 0 7 (dk_at dksX0_good_0 5 rfl rfl)
theorem dX0_good_8 : decode cX0_good 8 = .ok (.i2l, 1) := dk_133 (dk_at dksX0_good_0 8 rfl rfl)
theorem dX0_good_9 : decode cX0_good 9 = .ok (.lastore, 1) := dk_80 (dk_at dksX0_good_0 9 rfl rfl)
theorem dX0_good_10 : decode cX0_good 10 = .ok (.goto 11, 3) := dk_167 0 11 (dk_at dksX0_good_0 10 rfl rfl)
theorem dX0_good_13 : decode cX0_good 13 = .ok (.astore 4, 2) := dk_58 4 (dk_at dksX0_good_0 13 rfl rfl)
theorem dX0_good_15 : decode cX0_good 15 = .ok (.iconst 1, 1) := dk_4 (dk_at dksX0_good_0 15 rfl rfl)
theorem dX0_good_16 : decode cX0_good 16 = .ok (.ireturn, 1) := dk_172 (dk_at dksX0_good_0 16 rfl rfl)
theorem dX0_good_17 : decode cX0_good 17 = .ok (.astore 4, 2) := dk_58 4 (dk_at dksX0_good_0 17 rfl rfl)
theorem dX0_good_19 : decode cX0_good 19 = .ok (.iconst 2, 1) := dk_5 (dk_at dksX0_good_0 19 rfl rfl)
theorem dX0_good_20 : decode cX0_good 20 = .ok (.ireturn, 1) := dk_172 (dk_at dksX0_good_0 20 rfl rfl)
theorem dX0_good_21 : decode cX0_good 21 = .ok (.iconst 0, 1) := dk_3 (dk_at dksX0_good_0 21 rfl rfl)
theorem dX0_good_22 : decode cX0_good 22 = .ok (.ireturn, 1) := dk_172 (dk_at dksX0_good_0 22 rfl rfl)
abbrev cX0_put : ByteArray := method_4_code
def yX0_put : MethodName := ⟨RX0, "put", "(LPloughWills;II[J)I"⟩
def dkwX0_put_1 : List UInt8 := [172, 3, 172]
abbrev dktX0_put_1 : List UInt8 := dkwX0_put_1 ++ []
def dkwX0_put_0 : List UInt8 := [45, 3, 42, 27, 28, 182, 0, 17, 133, 80, 167, 0, 15, 58, 4, 4, 172, 58, 4, 5, 172, 58, 4, 6]
abbrev dktX0_put_0 : List UInt8 := dkwX0_put_0 ++ dktX0_put_1
theorem dksX0_put_0 : cX0_put.data.toList.drop 0 = dktX0_put_0 := by decide +kernel
theorem dksX0_put_1 : cX0_put.data.toList.drop 24 = dktX0_put_1 := dk_seg dksX0_put_0 24 rfl rfl
theorem dX0_put_0 : decode cX0_put 0 = .ok (.aload_n 3, 1) := dk_45 (dk_at dksX0_put_0 0 rfl rfl)
theorem dX0_put_1 : decode cX0_put 1 = .ok (.iconst 0, 1) := dk_3 (dk_at dksX0_put_0 1 rfl rfl)
theorem dX0_put_2 : decode cX0_put 2 = .ok (.aload_n 0, 1) := dk_42 (dk_at dksX0_put_0 2 rfl rfl)
theorem dX0_put_3 : decode cX0_put 3 = .ok (.iload_n 1, 1) := dk_27 (dk_at dksX0_put_0 3 rfl rfl)
theorem dX0_put_4 : decode cX0_put 4 = .ok (.iload_n 2, 1) := dk_28 (dk_at dksX0_put_0 4 rfl rfl)
theorem dX0_put_5 : decode cX0_put 5 = .ok (.invokevirtual 17, 3) := dk_182 0 17 (dk_at dksX0_put_0 5 rfl rfl)
theorem dX0_put_8 : decode cX0_put 8 = .ok (.i2l, 1) := dk_133 (dk_at dksX0_put_0 8 rfl rfl)
theorem dX0_put_9 : decode cX0_put 9 = .ok (.lastore, 1) := dk_80 (dk_at dksX0_put_0 9 rfl rfl)
theorem dX0_put_10 : decode cX0_put 10 = .ok (.goto 15, 3) := dk_167 0 15 (dk_at dksX0_put_0 10 rfl rfl)
theorem dX0_put_13 : decode cX0_put 13 = .ok (.astore 4, 2) := dk_58 4 (dk_at dksX0_put_0 13 rfl rfl)
theorem dX0_put_15 : decode cX0_put 15 = .ok (.iconst 1, 1) := dk_4 (dk_at dksX0_put_0 15 rfl rfl)
theorem dX0_put_16 : decode cX0_put 16 = .ok (.ireturn, 1) := dk_172 (dk_at dksX0_put_0 16 rfl rfl)
theorem dX0_put_17 : decode cX0_put 17 = .ok (.astore 4, 2) := dk_58 4 (dk_at dksX0_put_0 17 rfl rfl)
theorem dX0_put_19 : decode cX0_put 19 = .ok (.iconst 2, 1) := dk_5 (dk_at dksX0_put_0 19 rfl rfl)
theorem dX0_put_20 : decode cX0_put 20 = .ok (.ireturn, 1) := dk_172 (dk_at dksX0_put_0 20 rfl rfl)
theorem dX0_put_21 : decode cX0_put 21 = .ok (.astore 4, 2) := dk_58 4 (dk_at dksX0_put_0 21 rfl rfl)
theorem dX0_put_23 : decode cX0_put 23 = .ok (.iconst 3, 1) := dk_6 (dk_at dksX0_put_0 23 rfl rfl)
theorem dX0_put_24 : decode cX0_put 24 = .ok (.ireturn, 1) := dk_172 (dk_at dksX0_put_1 0 rfl rfl)
theorem dX0_put_25 : decode cX0_put 25 = .ok (.iconst 0, 1) := dk_3 (dk_at dksX0_put_1 1 rfl rfl)
theorem dX0_put_26 : decode cX0_put 26 = .ok (.ireturn, 1) := dk_172 (dk_at dksX0_put_1 2 rfl rfl)
abbrev cX0_takeOut : ByteArray := method_5_code
def yX0_takeOut : MethodName := ⟨RX0, "takeOut", "(LPloughWills;I[J)I"⟩
def dkwX0_takeOut_0 : List UInt8 := [44, 3, 42, 27, 182, 0, 22, 133, 80, 167, 0, 9, 78, 4, 172, 78, 5, 172, 3, 172]
abbrev dktX0_takeOut_0 : List UInt8 := dkwX0_takeOut_0 ++ []
theorem dksX0_takeOut_0 : cX0_takeOut.data.toList.drop 0 = dktX0_takeOut_0 := by decide +kernel
theorem dX0_takeOut_0 : decode cX0_takeOut 0 = .ok (.aload_n 2, 1) := dk_44 (dk_at dksX0_takeOut_0 0 rfl rfl)
theorem dX0_takeOut_1 : decode cX0_takeOut 1 = .ok (.iconst 0, 1) := dk_3 (dk_at dksX0_takeOut_0 1 rfl rfl)
theorem dX0_takeOut_2 : decode cX0_takeOut 2 = .ok (.aload_n 0, 1) := dk_42 (dk_at dksX0_takeOut_0 2 rfl rfl)
theorem dX0_takeOut_3 : decode cX0_takeOut 3 = .ok (.iload_n 1, 1) := dk_27 (dk_at dksX0_takeOut_0 3 rfl rfl)
theorem dX0_takeOut_4 : decode cX0_takeOut 4 = .ok (.invokevirtual 22, 3) := dk_182 0 22 (dk_at dksX0_takeOut_0 4 rfl rfl)
theorem dX0_takeOut_7 : decode cX0_takeOut 7 = .ok (.i2l, 1) := dk_133 (dk_at dksX0_takeOut_0 7 rfl rfl)
theorem dX0_takeOut_8 : decode cX0_takeOut 8 = .ok (.lastore, 1) := dk_80 (dk_at dksX0_takeOut_0 8 rfl rfl)
theorem dX0_takeOut_9 : decode cX0_takeOut 9 = .ok (.goto 9, 3) := dk_167 0 9 (dk_at dksX0_takeOut_0 9 rfl rfl)
theorem dX0_takeOut_12 : decode cX0_takeOut 12 = .ok (.astore_n 3, 1) := dk_78 (dk_at dksX0_takeOut_0 12 rfl rfl)
theorem dX0_takeOut_13 : decode cX0_takeOut 13 = .ok (.iconst 1, 1) := dk_4 (dk_at dksX0_takeOut_0 13 rfl rfl)
theorem dX0_takeOut_14 : decode cX0_takeOut 14 = .ok (.ireturn, 1) := dk_172 (dk_at dksX0_takeOut_0 14 rfl rfl)
theorem dX0_takeOut_15 : decode cX0_takeOut 15 = .ok (.astore_n 3, 1) := dk_78 (dk_at dksX0_takeOut_0 15 rfl rfl)
theorem dX0_takeOut_16 : decode cX0_takeOut 16 = .ok (.iconst 2, 1) := dk_5 (dk_at dksX0_takeOut_0 16 rfl rfl)
theorem dX0_takeOut_17 : decode cX0_takeOut 17 = .ok (.ireturn, 1) := dk_172 (dk_at dksX0_takeOut_0 17 rfl rfl)
theorem dX0_takeOut_18 : decode cX0_takeOut 18 = .ok (.iconst 0, 1) := dk_3 (dk_at dksX0_takeOut_0 18 rfl rfl)
theorem dX0_takeOut_19 : decode cX0_takeOut 19 = .ok (.ireturn, 1) := dk_172 (dk_at dksX0_takeOut_0 19 rfl rfl)
abbrev cX0_rate : ByteArray := method_6_code
def yX0_rate : MethodName := ⟨RX0, "rate", "(LPloughWills;II[J)I"⟩
def dkwX0_rate_0 : List UInt8 := [45, 3, 42, 27, 28, 182, 0, 26, 133, 80, 167, 0, 11, 58, 4, 4, 172, 58, 4, 5, 172, 3, 172]
abbrev dktX0_rate_0 : List UInt8 := dkwX0_rate_0 ++ []
theorem dksX0_rate_0 : cX0_rate.data.toList.drop 0 = dktX0_rate_0 := by decide +kernel
theorem dX0_rate_0 : decode cX0_rate 0 = .ok (.aload_n 3, 1) := dk_45 (dk_at dksX0_rate_0 0 rfl rfl)
theorem dX0_rate_1 : decode cX0_rate 1 = .ok (.iconst 0, 1) := dk_3 (dk_at dksX0_rate_0 1 rfl rfl)
theorem dX0_rate_2 : decode cX0_rate 2 = .ok (.aload_n 0, 1) := dk_42 (dk_at dksX0_rate_0 2 rfl rfl)
theorem dX0_rate_3 : decode cX0_rate 3 = .ok (.iload_n 1, 1) := dk_27 (dk_at dksX0_rate_0 3 rfl rfl)
theorem dX0_rate_4 : decode cX0_rate 4 = .ok (.iload_n 2, 1) := dk_28 (dk_at dksX0_rate_0 4 rfl rfl)
theorem dX0_rate_5 : decode cX0_rate 5 = .ok (.invokevirtual 26, 3) := dk_182 0 26 (dk_at dksX0_rate_0 5 rfl rfl)
theorem dX0_rate_8 : decode cX0_rate 8 = .ok (.i2l, 1) := dk_133 (dk_at dksX0_rate_0 8 rfl rfl)
theorem dX0_rate_9 : decode cX0_rate 9 = .ok (.lastore, 1) := dk_80 (dk_at dksX0_rate_0 9 rfl rfl)
theorem dX0_rate_10 : decode cX0_rate 10 = .ok (.goto 11, 3) := dk_167 0 11 (dk_at dksX0_rate_0 10 rfl rfl)
theorem dX0_rate_13 : decode cX0_rate 13 = .ok (.astore 4, 2) := dk_58 4 (dk_at dksX0_rate_0 13 rfl rfl)
theorem dX0_rate_15 : decode cX0_rate 15 = .ok (.iconst 1, 1) := dk_4 (dk_at dksX0_rate_0 15 rfl rfl)
theorem dX0_rate_16 : decode cX0_rate 16 = .ok (.ireturn, 1) := dk_172 (dk_at dksX0_rate_0 16 rfl rfl)
theorem dX0_rate_17 : decode cX0_rate 17 = .ok (.astore 4, 2) := dk_58 4 (dk_at dksX0_rate_0 17 rfl rfl)
theorem dX0_rate_19 : decode cX0_rate 19 = .ok (.iconst 2, 1) := dk_5 (dk_at dksX0_rate_0 19 rfl rfl)
theorem dX0_rate_20 : decode cX0_rate 20 = .ok (.ireturn, 1) := dk_172 (dk_at dksX0_rate_0 20 rfl rfl)
theorem dX0_rate_21 : decode cX0_rate 21 = .ok (.iconst 0, 1) := dk_3 (dk_at dksX0_rate_0 21 rfl rfl)
theorem dX0_rate_22 : decode cX0_rate 22 = .ok (.ireturn, 1) := dk_172 (dk_at dksX0_rate_0 22 rfl rfl)
abbrev cX0_goodOf : ByteArray := method_7_code
def yX0_goodOf : MethodName := ⟨RX0, "goodOf", "(LPloughWills;II[J)I"⟩
def dkwX0_goodOf_0 : List UInt8 := [45, 3, 42, 27, 28, 182, 0, 29, 133, 80, 167, 0, 11, 58, 4, 4, 172, 58, 4, 5, 172, 3, 172]
abbrev dktX0_goodOf_0 : List UInt8 := dkwX0_goodOf_0 ++ []
theorem dksX0_goodOf_0 : cX0_goodOf.data.toList.drop 0 = dktX0_goodOf_0 := by decide +kernel
theorem dX0_goodOf_0 : decode cX0_goodOf 0 = .ok (.aload_n 3, 1) := dk_45 (dk_at dksX0_goodOf_0 0 rfl rfl)
theorem dX0_goodOf_1 : decode cX0_goodOf 1 = .ok (.iconst 0, 1) := dk_3 (dk_at dksX0_goodOf_0 1 rfl rfl)
theorem dX0_goodOf_2 : decode cX0_goodOf 2 = .ok (.aload_n 0, 1) := dk_42 (dk_at dksX0_goodOf_0 2 rfl rfl)
theorem dX0_goodOf_3 : decode cX0_goodOf 3 = .ok (.iload_n 1, 1) := dk_27 (dk_at dksX0_goodOf_0 3 rfl rfl)
theorem dX0_goodOf_4 : decode cX0_goodOf 4 = .ok (.iload_n 2, 1) := dk_28 (dk_at dksX0_goodOf_0 4 rfl rfl)
theorem dX0_goodOf_5 : decode cX0_goodOf 5 = .ok (.invokevirtual 29, 3) := dk_182 0 29 (dk_at dksX0_goodOf_0 5 rfl rfl)
theorem dX0_goodOf_8 : decode cX0_goodOf 8 = .ok (.i2l, 1) := dk_133 (dk_at dksX0_goodOf_0 8 rfl rfl)
theorem dX0_goodOf_9 : decode cX0_goodOf 9 = .ok (.lastore, 1) := dk_80 (dk_at dksX0_goodOf_0 9 rfl rfl)
theorem dX0_goodOf_10 : decode cX0_goodOf 10 = .ok (.goto 11, 3) := dk_167 0 11 (dk_at dksX0_goodOf_0 10 rfl rfl)
theorem dX0_goodOf_13 : decode cX0_goodOf 13 = .ok (.astore 4, 2) := dk_58 4 (dk_at dksX0_goodOf_0 13 rfl rfl)
theorem dX0_goodOf_15 : decode cX0_goodOf 15 = .ok (.iconst 1, 1) := dk_4 (dk_at dksX0_goodOf_0 15 rfl rfl)
theorem dX0_goodOf_16 : decode cX0_goodOf 16 = .ok (.ireturn, 1) := dk_172 (dk_at dksX0_goodOf_0 16 rfl rfl)
theorem dX0_goodOf_17 : decode cX0_goodOf 17 = .ok (.astore 4, 2) := dk_58 4 (dk_at dksX0_goodOf_0 17 rfl rfl)
theorem dX0_goodOf_19 : decode cX0_goodOf 19 = .ok (.iconst 2, 1) := dk_5 (dk_at dksX0_goodOf_0 19 rfl rfl)
theorem dX0_goodOf_20 : decode cX0_goodOf 20 = .ok (.ireturn, 1) := dk_172 (dk_at dksX0_goodOf_0 20 rfl rfl)
theorem dX0_goodOf_21 : decode cX0_goodOf 21 = .ok (.iconst 0, 1) := dk_3 (dk_at dksX0_goodOf_0 21 rfl rfl)
theorem dX0_goodOf_22 : decode cX0_goodOf 22 = .ok (.ireturn, 1) := dk_172 (dk_at dksX0_goodOf_0 22 rfl rfl)
abbrev cX0_chestAt : ByteArray := method_8_code
def yX0_chestAt : MethodName := ⟨RX0, "chestAt", "(LPloughWills;II[J)I"⟩
def dkwX0_chestAt_0 : List UInt8 := [45, 3, 42, 27, 28, 182, 0, 32, 133, 80, 167, 0, 11, 58, 4, 4, 172, 58, 4, 5, 172, 3, 172]
abbrev dktX0_chestAt_0 : List UInt8 := dkwX0_chestAt_0 ++ []
theorem dksX0_chestAt_0 : cX0_chestAt.data.toList.drop 0 = dktX0_chestAt_0 := by decide +kernel
theorem dX0_chestAt_0 : decode cX0_chestAt 0 = .ok (.aload_n 3, 1) := dk_45 (dk_at dksX0_chestAt_0 0 rfl rfl)
theorem dX0_chestAt_1 : decode cX0_chestAt 1 = .ok (.iconst 0, 1) := dk_3 (dk_at dksX0_chestAt_0 1 rfl rfl)
theorem dX0_chestAt_2 : decode cX0_chestAt 2 = .ok (.aload_n 0, 1) := dk_42 (dk_at dksX0_chestAt_0 2 rfl rfl)
theorem dX0_chestAt_3 : decode cX0_chestAt 3 = .ok (.iload_n 1, 1) := dk_27 (dk_at dksX0_chestAt_0 3 rfl rfl)
theorem dX0_chestAt_4 : decode cX0_chestAt 4 = .ok (.iload_n 2, 1) := dk_28 (dk_at dksX0_chestAt_0 4 rfl rfl)
theorem dX0_chestAt_5 : decode cX0_chestAt 5 = .ok (.invokevirtual 32, 3) := dk_182 0 32 (dk_at dksX0_chestAt_0 5 rfl rfl)
theorem dX0_chestAt_8 : decode cX0_chestAt 8 = .ok (.i2l, 1) := dk_133 (dk_at dksX0_chestAt_0 8 rfl rfl)
theorem dX0_chestAt_9 : decode cX0_chestAt 9 = .ok (.lastore, 1) := dk_80 (dk_at dksX0_chestAt_0 9 rfl rfl)
theorem dX0_chestAt_10 : decode cX0_chestAt 10 = .ok (.goto 11, 3) := dk_167 0 11 (dk_at dksX0_chestAt_0 10 rfl rfl)
theorem dX0_chestAt_13 : decode cX0_chestAt 13 = .ok (.astore 4, 2) := dk_58 4 (dk_at dksX0_chestAt_0 13 rfl rfl)
theorem dX0_chestAt_15 : decode cX0_chestAt 15 = .ok (.iconst 1, 1) := dk_4 (dk_at dksX0_chestAt_0 15 rfl rfl)
theorem dX0_chestAt_16 : decode cX0_chestAt 16 = .ok (.ireturn, 1) := dk_172 (dk_at dksX0_chestAt_0 16 rfl rfl)
theorem dX0_chestAt_17 : decode cX0_chestAt 17 = .ok (.astore 4, 2) := dk_58 4 (dk_at dksX0_chestAt_0 17 rfl rfl)
theorem dX0_chestAt_19 : decode cX0_chestAt 19 = .ok (.iconst 2, 1) := dk_5 (dk_at dksX0_chestAt_0 19 rfl rfl)
theorem dX0_chestAt_20 : decode cX0_chestAt 20 = .ok (.ireturn, 1) := dk_172 (dk_at dksX0_chestAt_0 20 rfl rfl)
theorem dX0_chestAt_21 : decode cX0_chestAt 21 = .ok (.iconst 0, 1) := dk_3 (dk_at dksX0_chestAt_0 21 rfl rfl)
theorem dX0_chestAt_22 : decode cX0_chestAt 22 = .ok (.ireturn, 1) := dk_172 (dk_at dksX0_chestAt_0 22 rfl rfl)
abbrev cX0_tithe : ByteArray := method_9_code
def yX0_tithe : MethodName := ⟨RX0, "tithe", "(LPloughWills;I[D)I"⟩
def dkwX0_tithe_0 : List UInt8 := [44, 3, 42, 27, 182, 0, 37, 141, 82, 167, 0, 6, 78, 4, 172, 3, 172]
abbrev dktX0_tithe_0 : List UInt8 := dkwX0_tithe_0 ++ []
theorem dksX0_tithe_0 : cX0_tithe.data.toList.drop 0 = dktX0_tithe_0 := by decide +kernel
theorem dX0_tithe_0 : decode cX0_tithe 0 = .ok (.aload_n 2, 1) := dk_44 (dk_at dksX0_tithe_0 0 rfl rfl)
theorem dX0_tithe_1 : decode cX0_tithe 1 = .ok (.iconst 0, 1) := dk_3 (dk_at dksX0_tithe_0 1 rfl rfl)
theorem dX0_tithe_2 : decode cX0_tithe 2 = .ok (.aload_n 0, 1) := dk_42 (dk_at dksX0_tithe_0 2 rfl rfl)
theorem dX0_tithe_3 : decode cX0_tithe 3 = .ok (.iload_n 1, 1) := dk_27 (dk_at dksX0_tithe_0 3 rfl rfl)
theorem dX0_tithe_4 : decode cX0_tithe 4 = .ok (.invokevirtual 37, 3) := dk_182 0 37 (dk_at dksX0_tithe_0 4 rfl rfl)
theorem dX0_tithe_7 : decode cX0_tithe 7 = .ok (.f2d, 1) := dk_141 (dk_at dksX0_tithe_0 7 rfl rfl)
theorem dX0_tithe_8 : decode cX0_tithe 8 = .ok (.dastore, 1) := dk_82 (dk_at dksX0_tithe_0 8 rfl rfl)
theorem dX0_tithe_9 : decode cX0_tithe 9 = .ok (.goto 6, 3) := dk_167 0 6 (dk_at dksX0_tithe_0 9 rfl rfl)
theorem dX0_tithe_12 : decode cX0_tithe 12 = .ok (.astore_n 3, 1) := dk_78 (dk_at dksX0_tithe_0 12 rfl rfl)
theorem dX0_tithe_13 : decode cX0_tithe 13 = .ok (.iconst 1, 1) := dk_4 (dk_at dksX0_tithe_0 13 rfl rfl)
theorem dX0_tithe_14 : decode cX0_tithe 14 = .ok (.ireturn, 1) := dk_172 (dk_at dksX0_tithe_0 14 rfl rfl)
theorem dX0_tithe_15 : decode cX0_tithe 15 = .ok (.iconst 0, 1) := dk_3 (dk_at dksX0_tithe_0 15 rfl rfl)
theorem dX0_tithe_16 : decode cX0_tithe 16 = .ok (.ireturn, 1) := dk_172 (dk_at dksX0_tithe_0 16 rfl rfl)
abbrev cX0_rateBits : ByteArray := method_10_code
def yX0_rateBits : MethodName := ⟨RX0, "rateBits", "(LPloughWills;I[J)I"⟩
def dkwX0_rateBits_0 : List UInt8 := [44, 3, 42, 27, 182, 0, 41, 133, 80, 167, 0, 6, 78, 4, 172, 3, 172]
abbrev dktX0_rateBits_0 : List UInt8 := dkwX0_rateBits_0 ++ []
theorem dksX0_rateBits_0 : cX0_rateBits.data.toList.drop 0 = dktX0_rateBits_0 := by decide +kernel
theorem dX0_rateBits_0 : decode cX0_rateBits 0 = .ok (.aload_n 2, 1) := dk_44 (dk_at dksX0_rateBits_0 0 rfl rfl)
theorem dX0_rateBits_1 : decode cX0_rateBits 1 = .ok (.iconst 0, 1) := dk_3 (dk_at dksX0_rateBits_0 1 rfl rfl)
theorem dX0_rateBits_2 : decode cX0_rateBits 2 = .ok (.aload_n 0, 1) := dk_42 (dk_at dksX0_rateBits_0 2 rfl rfl)
theorem dX0_rateBits_3 : decode cX0_rateBits 3 = .ok (.iload_n 1, 1) := dk_27 (dk_at dksX0_rateBits_0 3 rfl rfl)
theorem dX0_rateBits_4 : decode cX0_rateBits 4 = .ok (.invokevirtual 41, 3) := dk_182 0 41 (dk_at dksX0_rateBits_0 4 rfl rfl)
theorem dX0_rateBits_7 : decode cX0_rateBits 7 = .ok (.i2l, 1) := dk_133 (dk_at dksX0_rateBits_0 7 rfl rfl)
theorem dX0_rateBits_8 : decode cX0_rateBits 8 = .ok (.lastore, 1) := dk_80 (dk_at dksX0_rateBits_0 8 rfl rfl)
theorem dX0_rateBits_9 : decode cX0_rateBits 9 = .ok (.goto 6, 3) := dk_167 0 6 (dk_at dksX0_rateBits_0 9 rfl rfl)
theorem dX0_rateBits_12 : decode cX0_rateBits 12 = .ok (.astore_n 3, 1) := dk_78 (dk_at dksX0_rateBits_0 12 rfl rfl)
theorem dX0_rateBits_13 : decode cX0_rateBits 13 = .ok (.iconst 1, 1) := dk_4 (dk_at dksX0_rateBits_0 13 rfl rfl)
theorem dX0_rateBits_14 : decode cX0_rateBits 14 = .ok (.ireturn, 1) := dk_172 (dk_at dksX0_rateBits_0 14 rfl rfl)
theorem dX0_rateBits_15 : decode cX0_rateBits 15 = .ok (.iconst 0, 1) := dk_3 (dk_at dksX0_rateBits_0 15 rfl rfl)
theorem dX0_rateBits_16 : decode cX0_rateBits 16 = .ok (.ireturn, 1) := dk_172 (dk_at dksX0_rateBits_0 16 rfl rfl)
abbrev cX0_add : ByteArray := method_11_code
def yX0_add : MethodName := ⟨RX0, "add", "(LPloughWills;III[J)I"⟩
def dkwX0_add_1 : List UInt8 := [172]
abbrev dktX0_add_1 : List UInt8 := dkwX0_add_1 ++ []
def dkwX0_add_0 : List UInt8 := [25, 4, 3, 42, 27, 28, 29, 182, 0, 44, 133, 80, 167, 0, 11, 58, 5, 4, 172, 58, 5, 5, 172, 3]
abbrev dktX0_add_0 : List UInt8 := dkwX0_add_0 ++ dktX0_add_1
theorem dksX0_add_0 : cX0_add.data.toList.drop 0 = dktX0_add_0 := by decide +kernel
theorem dksX0_add_1 : cX0_add.data.toList.drop 24 = dktX0_add_1 := dk_seg dksX0_add_0 24 rfl rfl
theorem dX0_add_0 : decode cX0_add 0 = .ok (.aload 4, 2) := dk_25 4 (dk_at dksX0_add_0 0 rfl rfl)
theorem dX0_add_2 : decode cX0_add 2 = .ok (.iconst 0, 1) := dk_3 (dk_at dksX0_add_0 2 rfl rfl)
theorem dX0_add_3 : decode cX0_add 3 = .ok (.aload_n 0, 1) := dk_42 (dk_at dksX0_add_0 3 rfl rfl)
theorem dX0_add_4 : decode cX0_add 4 = .ok (.iload_n 1, 1) := dk_27 (dk_at dksX0_add_0 4 rfl rfl)
theorem dX0_add_5 : decode cX0_add 5 = .ok (.iload_n 2, 1) := dk_28 (dk_at dksX0_add_0 5 rfl rfl)
theorem dX0_add_6 : decode cX0_add 6 = .ok (.iload_n 3, 1) := dk_29 (dk_at dksX0_add_0 6 rfl rfl)
theorem dX0_add_7 : decode cX0_add 7 = .ok (.invokevirtual 44, 3) := dk_182 0 44 (dk_at dksX0_add_0 7 rfl rfl)
theorem dX0_add_10 : decode cX0_add 10 = .ok (.i2l, 1) := dk_133 (dk_at dksX0_add_0 10 rfl rfl)
theorem dX0_add_11 : decode cX0_add 11 = .ok (.lastore, 1) := dk_80 (dk_at dksX0_add_0 11 rfl rfl)
theorem dX0_add_12 : decode cX0_add 12 = .ok (.goto 11, 3) := dk_167 0 11 (dk_at dksX0_add_0 12 rfl rfl)
theorem dX0_add_15 : decode cX0_add 15 = .ok (.astore 5, 2) := dk_58 5 (dk_at dksX0_add_0 15 rfl rfl)
theorem dX0_add_17 : decode cX0_add 17 = .ok (.iconst 1, 1) := dk_4 (dk_at dksX0_add_0 17 rfl rfl)
theorem dX0_add_18 : decode cX0_add 18 = .ok (.ireturn, 1) := dk_172 (dk_at dksX0_add_0 18 rfl rfl)
theorem dX0_add_19 : decode cX0_add 19 = .ok (.astore 5, 2) := dk_58 5 (dk_at dksX0_add_0 19 rfl rfl)
theorem dX0_add_21 : decode cX0_add 21 = .ok (.iconst 2, 1) := dk_5 (dk_at dksX0_add_0 21 rfl rfl)
theorem dX0_add_22 : decode cX0_add 22 = .ok (.ireturn, 1) := dk_172 (dk_at dksX0_add_0 22 rfl rfl)
theorem dX0_add_23 : decode cX0_add 23 = .ok (.iconst 0, 1) := dk_3 (dk_at dksX0_add_0 23 rfl rfl)
theorem dX0_add_24 : decode cX0_add 24 = .ok (.ireturn, 1) := dk_172 (dk_at dksX0_add_1 0 rfl rfl)
abbrev cX0_insert : ByteArray := method_12_code
def yX0_insert : MethodName := ⟨RX0, "insert", "(LPloughWills;IIII[J)I"⟩
def dkwX0_insert_1 : List UInt8 := [172, 58, 6, 6, 172, 3, 172]
abbrev dktX0_insert_1 : List UInt8 := dkwX0_insert_1 ++ []
def dkwX0_insert_0 : List UInt8 := [25, 5, 3, 42, 27, 28, 29, 21, 4, 182, 0, 48, 133, 80, 167, 0, 15, 58, 6, 4, 172, 58, 6, 5]
abbrev dktX0_insert_0 : List UInt8 := dkwX0_insert_0 ++ dktX0_insert_1
theorem dksX0_insert_0 : cX0_insert.data.toList.drop 0 = dktX0_insert_0 := by decide +kernel
theorem dksX0_insert_1 : cX0_insert.data.toList.drop 24 = dktX0_insert_1 := dk_seg dksX0_insert_0 24 rfl rfl
theorem dX0_insert_0 : decode cX0_insert 0 = .ok (.aload 5, 2) := dk_25 5 (dk_at dksX0_insert_0 0 rfl rfl)
theorem dX0_insert_2 : decode cX0_insert 2 = .ok (.iconst 0, 1) := dk_3 (dk_at dksX0_insert_0 2 rfl rfl)
theorem dX0_insert_3 : decode cX0_insert 3 = .ok (.aload_n 0, 1) := dk_42 (dk_at dksX0_insert_0 3 rfl rfl)
theorem dX0_insert_4 : decode cX0_insert 4 = .ok (.iload_n 1, 1) := dk_27 (dk_at dksX0_insert_0 4 rfl rfl)
theorem dX0_insert_5 : decode cX0_insert 5 = .ok (.iload_n 2, 1) := dk_28 (dk_at dksX0_insert_0 5 rfl rfl)
theorem dX0_insert_6 : decode cX0_insert 6 = .ok (.iload_n 3, 1) := dk_29 (dk_at dksX0_insert_0 6 rfl rfl)
theorem dX0_insert_7 : decode cX0_insert 7 = .ok (.iload 4, 2) := dk_21 4 (dk_at dksX0_insert_0 7 rfl rfl)
theorem dX0_insert_9 : decode cX0_insert 9 = .ok (.invokevirtual 48, 3) := dk_182 0 48 (dk_at dksX0_insert_0 9 rfl rfl)
theorem dX0_insert_12 : decode cX0_insert 12 = .ok (.i2l, 1) := dk_133 (dk_at dksX0_insert_0 12 rfl rfl)
theorem dX0_insert_13 : decode cX0_insert 13 = .ok (.lastore, 1) := dk_80 (dk_at dksX0_insert_0 13 rfl rfl)
theorem dX0_insert_14 : decode cX0_insert 14 = .ok (.goto 15, 3) := dk_167 0 15 (dk_at dksX0_insert_0 14 rfl rfl)
theorem dX0_insert_17 : decode cX0_insert 17 = .ok (.astore 6, 2) := dk_58 6 (dk_at dksX0_insert_0 17 rfl rfl)
theorem dX0_insert_19 : decode cX0_insert 19 = .ok (.iconst 1, 1) := dk_4 (dk_at dksX0_insert_0 19 rfl rfl)
theorem dX0_insert_20 : decode cX0_insert 20 = .ok (.ireturn, 1) := dk_172 (dk_at dksX0_insert_0 20 rfl rfl)
theorem dX0_insert_21 : decode cX0_insert 21 = .ok (.astore 6, 2) := dk_58 6 (dk_at dksX0_insert_0 21 rfl rfl)
theorem dX0_insert_23 : decode cX0_insert 23 = .ok (.iconst 2, 1) := dk_5 (dk_at dksX0_insert_0 23 rfl rfl)
theorem dX0_insert_24 : decode cX0_insert 24 = .ok (.ireturn, 1) := dk_172 (dk_at dksX0_insert_1 0 rfl rfl)
theorem dX0_insert_25 : decode cX0_insert 25 = .ok (.astore 6, 2) := dk_58 6 (dk_at dksX0_insert_1 1 rfl rfl)
theorem dX0_insert_27 : decode cX0_insert 27 = .ok (.iconst 3, 1) := dk_6 (dk_at dksX0_insert_1 3 rfl rfl)
theorem dX0_insert_28 : decode cX0_insert 28 = .ok (.ireturn, 1) := dk_172 (dk_at dksX0_insert_1 4 rfl rfl)
theorem dX0_insert_29 : decode cX0_insert 29 = .ok (.iconst 0, 1) := dk_3 (dk_at dksX0_insert_1 5 rfl rfl)
theorem dX0_insert_30 : decode cX0_insert 30 = .ok (.ireturn, 1) := dk_172 (dk_at dksX0_insert_1 6 rfl rfl)
abbrev cX0_remove : ByteArray := method_13_code
def yX0_remove : MethodName := ⟨RX0, "remove", "(LPloughWills;I[J)I"⟩
def dkwX0_remove_0 : List UInt8 := [44, 3, 42, 27, 182, 0, 52, 133, 80, 167, 0, 6, 78, 4, 172, 3, 172]
abbrev dktX0_remove_0 : List UInt8 := dkwX0_remove_0 ++ []
theorem dksX0_remove_0 : cX0_remove.data.toList.drop 0 = dktX0_remove_0 := by decide +kernel
theorem dX0_remove_0 : decode cX0_remove 0 = .ok (.aload_n 2, 1) := dk_44 (dk_at dksX0_remove_0 0 rfl rfl)
theorem dX0_remove_1 : decode cX0_remove 1 = .ok (.iconst 0, 1) := dk_3 (dk_at dksX0_remove_0 1 rfl rfl)
theorem dX0_remove_2 : decode cX0_remove 2 = .ok (.aload_n 0, 1) := dk_42 (dk_at dksX0_remove_0 2 rfl rfl)
theorem dX0_remove_3 : decode cX0_remove 3 = .ok (.iload_n 1, 1) := dk_27 (dk_at dksX0_remove_0 3 rfl rfl)
theorem dX0_remove_4 : decode cX0_remove 4 = .ok (.invokevirtual 52, 3) := dk_182 0 52 (dk_at dksX0_remove_0 4 rfl rfl)
theorem dX0_remove_7 : decode cX0_remove 7 = .ok (.i2l, 1) := dk_133 (dk_at dksX0_remove_0 7 rfl rfl)
theorem dX0_remove_8 : decode cX0_remove 8 = .ok (.lastore, 1) := dk_80 (dk_at dksX0_remove_0 8 rfl rfl)
theorem dX0_remove_9 : decode cX0_remove 9 = .ok (.goto 6, 3) := dk_167 0 6 (dk_at dksX0_remove_0 9 rfl rfl)
theorem dX0_remove_12 : decode cX0_remove 12 = .ok (.astore_n 3, 1) := dk_78 (dk_at dksX0_remove_0 12 rfl rfl)
theorem dX0_remove_13 : decode cX0_remove 13 = .ok (.iconst 1, 1) := dk_4 (dk_at dksX0_remove_0 13 rfl rfl)
theorem dX0_remove_14 : decode cX0_remove 14 = .ok (.ireturn, 1) := dk_172 (dk_at dksX0_remove_0 14 rfl rfl)
theorem dX0_remove_15 : decode cX0_remove 15 = .ok (.iconst 0, 1) := dk_3 (dk_at dksX0_remove_0 15 rfl rfl)
theorem dX0_remove_16 : decode cX0_remove 16 = .ok (.ireturn, 1) := dk_172 (dk_at dksX0_remove_0 16 rfl rfl)
abbrev cX0_clauseOf : ByteArray := method_14_code
def yX0_clauseOf : MethodName := ⟨RX0, "clauseOf", "(LPloughWills;II[J)I"⟩
def dkwX0_clauseOf_0 : List UInt8 := [45, 3, 42, 27, 28, 182, 0, 55, 133, 80, 167, 0, 11, 58, 4, 4, 172, 58, 4, 5, 172, 3, 172]
abbrev dktX0_clauseOf_0 : List UInt8 := dkwX0_clauseOf_0 ++ []
theorem dksX0_clauseOf_0 : cX0_clauseOf.data.toList.drop 0 = dktX0_clauseOf_0 := by decide +kernel
theorem dX0_clauseOf_0 : decode cX0_clauseOf 0 = .ok (.aload_n 3, 1) := dk_45 (dk_at dksX0_clauseOf_0 0 rfl rfl)
theorem dX0_clauseOf_1 : decode cX0_clauseOf 1 = .ok (.iconst 0, 1) := dk_3 (dk_at dksX0_clauseOf_0 1 rfl rfl)
theorem dX0_clauseOf_2 : decode cX0_clauseOf 2 = .ok (.aload_n 0, 1) := dk_42 (dk_at dksX0_clauseOf_0 2 rfl rfl)
theorem dX0_clauseOf_3 : decode cX0_clauseOf 3 = .ok (.iload_n 1, 1) := dk_27 (dk_at dksX0_clauseOf_0 3 rfl rfl)
theorem dX0_clauseOf_4 : decode cX0_clauseOf 4 = .ok (.iload_n 2, 1) := dk_28 (dk_at dksX0_clauseOf_0 4 rfl rfl)
theorem dX0_clauseOf_5 : decode cX0_clauseOf 5 = .ok (.invokevirtual 55, 3) := dk_182 0 55 (dk_at dksX0_clauseOf_0 5 rfl rfl)
theorem dX0_clauseOf_8 : decode cX0_clauseOf 8 = .ok (.i2l, 1) := dk_133 (dk_at dksX0_clauseOf_0 8 rfl rfl)
theorem dX0_clauseOf_9 : decode cX0_clauseOf 9 = .ok (.lastore, 1) := dk_80 (dk_at dksX0_clauseOf_0 9 rfl rfl)
theorem dX0_clauseOf_10 : decode cX0_clauseOf 10 = .ok (.goto 11, 3) := dk_167 0 11 (dk_at dksX0_clauseOf_0 10 rfl rfl)
theorem dX0_clauseOf_13 : decode cX0_clauseOf 13 = .ok (.astore 4, 2) := dk_58 4 (dk_at dksX0_clauseOf_0 13 rfl rfl)
theorem dX0_clauseOf_15 : decode cX0_clauseOf 15 = .ok (.iconst 1, 1) := dk_4 (dk_at dksX0_clauseOf_0 15 rfl rfl)
theorem dX0_clauseOf_16 : decode cX0_clauseOf 16 = .ok (.ireturn, 1) := dk_172 (dk_at dksX0_clauseOf_0 16 rfl rfl)
theorem dX0_clauseOf_17 : decode cX0_clauseOf 17 = .ok (.astore 4, 2) := dk_58 4 (dk_at dksX0_clauseOf_0 17 rfl rfl)
theorem dX0_clauseOf_19 : decode cX0_clauseOf 19 = .ok (.iconst 2, 1) := dk_5 (dk_at dksX0_clauseOf_0 19 rfl rfl)
theorem dX0_clauseOf_20 : decode cX0_clauseOf 20 = .ok (.ireturn, 1) := dk_172 (dk_at dksX0_clauseOf_0 20 rfl rfl)
theorem dX0_clauseOf_21 : decode cX0_clauseOf 21 = .ok (.iconst 0, 1) := dk_3 (dk_at dksX0_clauseOf_0 21 rfl rfl)
theorem dX0_clauseOf_22 : decode cX0_clauseOf 22 = .ok (.ireturn, 1) := dk_172 (dk_at dksX0_clauseOf_0 22 rfl rfl)
abbrev cX0_wrong : ByteArray := method_15_code
def yX0_wrong : MethodName := ⟨RX0, "wrong", "(LPloughWills;I[J)I"⟩
def dkwX0_wrong_0 : List UInt8 := [44, 3, 42, 27, 182, 0, 58, 133, 80, 167, 0, 6, 78, 4, 172, 3, 172]
abbrev dktX0_wrong_0 : List UInt8 := dkwX0_wrong_0 ++ []
theorem dksX0_wrong_0 : cX0_wrong.data.toList.drop 0 = dktX0_wrong_0 := by decide +kernel
theorem dX0_wrong_0 : decode cX0_wrong 0 = .ok (.aload_n 2, 1) := dk_44 (dk_at dksX0_wrong_0 0 rfl rfl)
theorem dX0_wrong_1 : decode cX0_wrong 1 = .ok (.iconst 0, 1) := dk_3 (dk_at dksX0_wrong_0 1 rfl rfl)
theorem dX0_wrong_2 : decode cX0_wrong 2 = .ok (.aload_n 0, 1) := dk_42 (dk_at dksX0_wrong_0 2 rfl rfl)
theorem dX0_wrong_3 : decode cX0_wrong 3 = .ok (.iload_n 1, 1) := dk_27 (dk_at dksX0_wrong_0 3 rfl rfl)
theorem dX0_wrong_4 : decode cX0_wrong 4 = .ok (.invokevirtual 58, 3) := dk_182 0 58 (dk_at dksX0_wrong_0 4 rfl rfl)
theorem dX0_wrong_7 : decode cX0_wrong 7 = .ok (.i2l, 1) := dk_133 (dk_at dksX0_wrong_0 7 rfl rfl)
theorem dX0_wrong_8 : decode cX0_wrong 8 = .ok (.lastore, 1) := dk_80 (dk_at dksX0_wrong_0 8 rfl rfl)
theorem dX0_wrong_9 : decode cX0_wrong 9 = .ok (.goto 6, 3) := dk_167 0 6 (dk_at dksX0_wrong_0 9 rfl rfl)
theorem dX0_wrong_12 : decode cX0_wrong 12 = .ok (.astore_n 3, 1) := dk_78 (dk_at dksX0_wrong_0 12 rfl rfl)
theorem dX0_wrong_13 : decode cX0_wrong 13 = .ok (.iconst 1, 1) := dk_4 (dk_at dksX0_wrong_0 13 rfl rfl)
theorem dX0_wrong_14 : decode cX0_wrong 14 = .ok (.ireturn, 1) := dk_172 (dk_at dksX0_wrong_0 14 rfl rfl)
theorem dX0_wrong_15 : decode cX0_wrong 15 = .ok (.iconst 0, 1) := dk_3 (dk_at dksX0_wrong_0 15 rfl rfl)
theorem dX0_wrong_16 : decode cX0_wrong 16 = .ok (.ireturn, 1) := dk_172 (dk_at dksX0_wrong_0 16 rfl rfl)
abbrev cX0_goodAt : ByteArray := method_16_code
def yX0_goodAt : MethodName := ⟨RX0, "goodAt", "(LPloughWills;II[J)I"⟩
def dkwX0_goodAt_0 : List UInt8 := [45, 3, 42, 27, 28, 182, 0, 61, 133, 80, 167, 0, 11, 58, 4, 4, 172, 58, 4, 5, 172, 3, 172]
abbrev dktX0_goodAt_0 : List UInt8 := dkwX0_goodAt_0 ++ []
theorem dksX0_goodAt_0 : cX0_goodAt.data.toList.drop 0 = dktX0_goodAt_0 := by decide +kernel
theorem dX0_goodAt_0 : decode cX0_goodAt 0 = .ok (.aload_n 3, 1) := dk_45 (dk_at dksX0_goodAt_0 0 rfl rfl)
theorem dX0_goodAt_1 : decode cX0_goodAt 1 = .ok (.iconst 0, 1) := dk_3 (dk_at dksX0_goodAt_0 1 rfl rfl)
theorem dX0_goodAt_2 : decode cX0_goodAt 2 = .ok (.aload_n 0, 1) := dk_42 (dk_at dksX0_goodAt_0 2 rfl rfl)
theorem dX0_goodAt_3 : decode cX0_goodAt 3 = .ok (.iload_n 1, 1) := dk_27 (dk_at dksX0_goodAt_0 3 rfl rfl)
theorem dX0_goodAt_4 : decode cX0_goodAt 4 = .ok (.iload_n 2, 1) := dk_28 (dk_at dksX0_goodAt_0 4 rfl rfl)
theorem dX0_goodAt_5 : decode cX0_goodAt 5 = .ok (.invokevirtual 61, 3) := dk_182 0 61 (dk_at dksX0_goodAt_0 5 rfl rfl)
theorem dX0_goodAt_8 : decode cX0_goodAt 8 = .ok (.i2l, 1) := dk_133 (dk_at dksX0_goodAt_0 8 rfl rfl)
theorem dX0_goodAt_9 : decode cX0_goodAt 9 = .ok (.lastore, 1) := dk_80 (dk_at dksX0_goodAt_0 9 rfl rfl)
theorem dX0_goodAt_10 : decode cX0_goodAt 10 = .ok (.goto 11, 3) := dk_167 0 11 (dk_at dksX0_goodAt_0 10 rfl rfl)
theorem dX0_goodAt_13 : decode cX0_goodAt 13 = .ok (.astore 4, 2) := dk_58 4 (dk_at dksX0_goodAt_0 13 rfl rfl)
theorem dX0_goodAt_15 : decode cX0_goodAt 15 = .ok (.iconst 1, 1) := dk_4 (dk_at dksX0_goodAt_0 15 rfl rfl)
theorem dX0_goodAt_16 : decode cX0_goodAt 16 = .ok (.ireturn, 1) := dk_172 (dk_at dksX0_goodAt_0 16 rfl rfl)
theorem dX0_goodAt_17 : decode cX0_goodAt 17 = .ok (.astore 4, 2) := dk_58 4 (dk_at dksX0_goodAt_0 17 rfl rfl)
theorem dX0_goodAt_19 : decode cX0_goodAt 19 = .ok (.iconst 2, 1) := dk_5 (dk_at dksX0_goodAt_0 19 rfl rfl)
theorem dX0_goodAt_20 : decode cX0_goodAt 20 = .ok (.ireturn, 1) := dk_172 (dk_at dksX0_goodAt_0 20 rfl rfl)
theorem dX0_goodAt_21 : decode cX0_goodAt 21 = .ok (.iconst 0, 1) := dk_3 (dk_at dksX0_goodAt_0 21 rfl rfl)
theorem dX0_goodAt_22 : decode cX0_goodAt 22 = .ok (.ireturn, 1) := dk_172 (dk_at dksX0_goodAt_0 22 rfl rfl)
abbrev cX0_ploughAt : ByteArray := method_17_code
def yX0_ploughAt : MethodName := ⟨RX0, "ploughAt", "(LPloughWills;II[J)I"⟩
def dkwX0_ploughAt_0 : List UInt8 := [45, 3, 42, 27, 28, 182, 0, 64, 133, 80, 167, 0, 11, 58, 4, 4, 172, 58, 4, 5, 172, 3, 172]
abbrev dktX0_ploughAt_0 : List UInt8 := dkwX0_ploughAt_0 ++ []
theorem dksX0_ploughAt_0 : cX0_ploughAt.data.toList.drop 0 = dktX0_ploughAt_0 := by decide +kernel
theorem dX0_ploughAt_0 : decode cX0_ploughAt 0 = .ok (.aload_n 3, 1) := dk_45 (dk_at dksX0_ploughAt_0 0 rfl rfl)
theorem dX0_ploughAt_1 : decode cX0_ploughAt 1 = .ok (.iconst 0, 1) := dk_3 (dk_at dksX0_ploughAt_0 1 rfl rfl)
theorem dX0_ploughAt_2 : decode cX0_ploughAt 2 = .ok (.aload_n 0, 1) := dk_42 (dk_at dksX0_ploughAt_0 2 rfl rfl)
theorem dX0_ploughAt_3 : decode cX0_ploughAt 3 = .ok (.iload_n 1, 1) := dk_27 (dk_at dksX0_ploughAt_0 3 rfl rfl)
theorem dX0_ploughAt_4 : decode cX0_ploughAt 4 = .ok (.iload_n 2, 1) := dk_28 (dk_at dksX0_ploughAt_0 4 rfl rfl)
theorem dX0_ploughAt_5 : decode cX0_ploughAt 5 = .ok (.invokevirtual 64, 3) := dk_182 0 64 (dk_at dksX0_ploughAt_0 5 rfl rfl)
theorem dX0_ploughAt_8 : decode cX0_ploughAt 8 = .ok (.i2l, 1) := dk_133 (dk_at dksX0_ploughAt_0 8 rfl rfl)
theorem dX0_ploughAt_9 : decode cX0_ploughAt 9 = .ok (.lastore, 1) := dk_80 (dk_at dksX0_ploughAt_0 9 rfl rfl)
theorem dX0_ploughAt_10 : decode cX0_ploughAt 10 = .ok (.goto 11, 3) := dk_167 0 11 (dk_at dksX0_ploughAt_0 10 rfl rfl)
theorem dX0_ploughAt_13 : decode cX0_ploughAt 13 = .ok (.astore 4, 2) := dk_58 4 (dk_at dksX0_ploughAt_0 13 rfl rfl)
theorem dX0_ploughAt_15 : decode cX0_ploughAt 15 = .ok (.iconst 1, 1) := dk_4 (dk_at dksX0_ploughAt_0 15 rfl rfl)
theorem dX0_ploughAt_16 : decode cX0_ploughAt 16 = .ok (.ireturn, 1) := dk_172 (dk_at dksX0_ploughAt_0 16 rfl rfl)
theorem dX0_ploughAt_17 : decode cX0_ploughAt 17 = .ok (.astore 4, 2) := dk_58 4 (dk_at dksX0_ploughAt_0 17 rfl rfl)
theorem dX0_ploughAt_19 : decode cX0_ploughAt 19 = .ok (.iconst 2, 1) := dk_5 (dk_at dksX0_ploughAt_0 19 rfl rfl)
theorem dX0_ploughAt_20 : decode cX0_ploughAt 20 = .ok (.ireturn, 1) := dk_172 (dk_at dksX0_ploughAt_0 20 rfl rfl)
theorem dX0_ploughAt_21 : decode cX0_ploughAt 21 = .ok (.iconst 0, 1) := dk_3 (dk_at dksX0_ploughAt_0 21 rfl rfl)
theorem dX0_ploughAt_22 : decode cX0_ploughAt 22 = .ok (.ireturn, 1) := dk_172 (dk_at dksX0_ploughAt_0 22 rfl rfl)
abbrev cX0_pathOf : ByteArray := method_18_code
def yX0_pathOf : MethodName := ⟨RX0, "pathOf", "(LPloughWills;II[J)I"⟩
def dkwX0_pathOf_0 : List UInt8 := [45, 3, 42, 27, 28, 182, 0, 67, 133, 80, 167, 0, 11, 58, 4, 4, 172, 58, 4, 5, 172, 3, 172]
abbrev dktX0_pathOf_0 : List UInt8 := dkwX0_pathOf_0 ++ []
theorem dksX0_pathOf_0 : cX0_pathOf.data.toList.drop 0 = dktX0_pathOf_0 := by decide +kernel
theorem dX0_pathOf_0 : decode cX0_pathOf 0 = .ok (.aload_n 3, 1) := dk_45 (dk_at dksX0_pathOf_0 0 rfl rfl)
theorem dX0_pathOf_1 : decode cX0_pathOf 1 = .ok (.iconst 0, 1) := dk_3 (dk_at dksX0_pathOf_0 1 rfl rfl)
theorem dX0_pathOf_2 : decode cX0_pathOf 2 = .ok (.aload_n 0, 1) := dk_42 (dk_at dksX0_pathOf_0 2 rfl rfl)
theorem dX0_pathOf_3 : decode cX0_pathOf 3 = .ok (.iload_n 1, 1) := dk_27 (dk_at dksX0_pathOf_0 3 rfl rfl)
theorem dX0_pathOf_4 : decode cX0_pathOf 4 = .ok (.iload_n 2, 1) := dk_28 (dk_at dksX0_pathOf_0 4 rfl rfl)
theorem dX0_pathOf_5 : decode cX0_pathOf 5 = .ok (.invokevirtual 67, 3) := dk_182 0 67 (dk_at dksX0_pathOf_0 5 rfl rfl)
theorem dX0_pathOf_8 : decode cX0_pathOf 8 = .ok (.i2l, 1) := dk_133 (dk_at dksX0_pathOf_0 8 rfl rfl)
theorem dX0_pathOf_9 : decode cX0_pathOf 9 = .ok (.lastore, 1) := dk_80 (dk_at dksX0_pathOf_0 9 rfl rfl)
theorem dX0_pathOf_10 : decode cX0_pathOf 10 = .ok (.goto 11, 3) := dk_167 0 11 (dk_at dksX0_pathOf_0 10 rfl rfl)
theorem dX0_pathOf_13 : decode cX0_pathOf 13 = .ok (.astore 4, 2) := dk_58 4 (dk_at dksX0_pathOf_0 13 rfl rfl)
theorem dX0_pathOf_15 : decode cX0_pathOf 15 = .ok (.iconst 1, 1) := dk_4 (dk_at dksX0_pathOf_0 15 rfl rfl)
theorem dX0_pathOf_16 : decode cX0_pathOf 16 = .ok (.ireturn, 1) := dk_172 (dk_at dksX0_pathOf_0 16 rfl rfl)
theorem dX0_pathOf_17 : decode cX0_pathOf 17 = .ok (.astore 4, 2) := dk_58 4 (dk_at dksX0_pathOf_0 17 rfl rfl)
theorem dX0_pathOf_19 : decode cX0_pathOf 19 = .ok (.iconst 2, 1) := dk_5 (dk_at dksX0_pathOf_0 19 rfl rfl)
theorem dX0_pathOf_20 : decode cX0_pathOf 20 = .ok (.ireturn, 1) := dk_172 (dk_at dksX0_pathOf_0 20 rfl rfl)
theorem dX0_pathOf_21 : decode cX0_pathOf 21 = .ok (.iconst 0, 1) := dk_3 (dk_at dksX0_pathOf_0 21 rfl rfl)
theorem dX0_pathOf_22 : decode cX0_pathOf 22 = .ok (.ireturn, 1) := dk_172 (dk_at dksX0_pathOf_0 22 rfl rfl)
abbrev cX0_goesBy : ByteArray := method_19_code
def yX0_goesBy : MethodName := ⟨RX0, "goesBy", "(LPloughWills;II[J)I"⟩
def dkwX0_goesBy_1 : List UInt8 := [58, 4, 5, 172, 3, 172]
abbrev dktX0_goesBy_1 : List UInt8 := dkwX0_goesBy_1 ++ []
def dkwX0_goesBy_0 : List UInt8 := [45, 3, 42, 27, 28, 182, 0, 70, 153, 0, 7, 10, 167, 0, 4, 9, 80, 167, 0, 11, 58, 4, 4, 172]
abbrev dktX0_goesBy_0 : List UInt8 := dkwX0_goesBy_0 ++ dktX0_goesBy_1
theorem dksX0_goesBy_0 : cX0_goesBy.data.toList.drop 0 = dktX0_goesBy_0 := by decide +kernel
theorem dksX0_goesBy_1 : cX0_goesBy.data.toList.drop 24 = dktX0_goesBy_1 := dk_seg dksX0_goesBy_0 24 rfl rfl
theorem dX0_goesBy_0 : decode cX0_goesBy 0 = .ok (.aload_n 3, 1) := dk_45 (dk_at dksX0_goesBy_0 0 rfl rfl)
theorem dX0_goesBy_1 : decode cX0_goesBy 1 = .ok (.iconst 0, 1) := dk_3 (dk_at dksX0_goesBy_0 1 rfl rfl)
theorem dX0_goesBy_2 : decode cX0_goesBy 2 = .ok (.aload_n 0, 1) := dk_42 (dk_at dksX0_goesBy_0 2 rfl rfl)
theorem dX0_goesBy_3 : decode cX0_goesBy 3 = .ok (.iload_n 1, 1) := dk_27 (dk_at dksX0_goesBy_0 3 rfl rfl)
theorem dX0_goesBy_4 : decode cX0_goesBy 4 = .ok (.iload_n 2, 1) := dk_28 (dk_at dksX0_goesBy_0 4 rfl rfl)
theorem dX0_goesBy_5 : decode cX0_goesBy 5 = .ok (.invokevirtual 70, 3) := dk_182 0 70 (dk_at dksX0_goesBy_0 5 rfl rfl)
theorem dX0_goesBy_8 : decode cX0_goesBy 8 = .ok (.ifCond .eq 7, 3) := dk_153 0 7 (dk_at dksX0_goesBy_0 8 rfl rfl)
theorem dX0_goesBy_11 : decode cX0_goesBy 11 = .ok (.lconst 1, 1) := dk_10 (dk_at dksX0_goesBy_0 11 rfl rfl)
theorem dX0_goesBy_12 : decode cX0_goesBy 12 = .ok (.goto 4, 3) := dk_167 0 4 (dk_at dksX0_goesBy_0 12 rfl rfl)
theorem dX0_goesBy_15 : decode cX0_goesBy 15 = .ok (.lconst 0, 1) := dk_9 (dk_at dksX0_goesBy_0 15 rfl rfl)
theorem dX0_goesBy_16 : decode cX0_goesBy 16 = .ok (.lastore, 1) := dk_80 (dk_at dksX0_goesBy_0 16 rfl rfl)
theorem dX0_goesBy_17 : decode cX0_goesBy 17 = .ok (.goto 11, 3) := dk_167 0 11 (dk_at dksX0_goesBy_0 17 rfl rfl)
theorem dX0_goesBy_20 : decode cX0_goesBy 20 = .ok (.astore 4, 2) := dk_58 4 (dk_at dksX0_goesBy_0 20 rfl rfl)
theorem dX0_goesBy_22 : decode cX0_goesBy 22 = .ok (.iconst 1, 1) := dk_4 (dk_at dksX0_goesBy_0 22 rfl rfl)
theorem dX0_goesBy_23 : decode cX0_goesBy 23 = .ok (.ireturn, 1) := dk_172 (dk_at dksX0_goesBy_0 23 rfl rfl)
theorem dX0_goesBy_24 : decode cX0_goesBy 24 = .ok (.astore 4, 2) := dk_58 4 (dk_at dksX0_goesBy_1 0 rfl rfl)
theorem dX0_goesBy_26 : decode cX0_goesBy 26 = .ok (.iconst 2, 1) := dk_5 (dk_at dksX0_goesBy_1 2 rfl rfl)
theorem dX0_goesBy_27 : decode cX0_goesBy 27 = .ok (.ireturn, 1) := dk_172 (dk_at dksX0_goesBy_1 3 rfl rfl)
theorem dX0_goesBy_28 : decode cX0_goesBy 28 = .ok (.iconst 0, 1) := dk_3 (dk_at dksX0_goesBy_1 4 rfl rfl)
theorem dX0_goesBy_29 : decode cX0_goesBy 29 = .ok (.ireturn, 1) := dk_172 (dk_at dksX0_goesBy_1 5 rfl rfl)
abbrev cX0_worth : ByteArray := method_20_code
def yX0_worth : MethodName := ⟨RX0, "worth", "(LPloughWills;ZZ[J)I"⟩
def dkwX0_worth_0 : List UInt8 := [45, 3, 42, 27, 28, 182, 0, 74, 133, 80, 167, 0, 7, 58, 4, 4, 172, 3, 172]
abbrev dktX0_worth_0 : List UInt8 := dkwX0_worth_0 ++ []
theorem dksX0_worth_0 : cX0_worth.data.toList.drop 0 = dktX0_worth_0 := by decide +kernel
theorem dX0_worth_0 : decode cX0_worth 0 = .ok (.aload_n 3, 1) := dk_45 (dk_at dksX0_worth_0 0 rfl rfl)
theorem dX0_worth_1 : decode cX0_worth 1 = .ok (.iconst 0, 1) := dk_3 (dk_at dksX0_worth_0 1 rfl rfl)
theorem dX0_worth_2 : decode cX0_worth 2 = .ok (.aload_n 0, 1) := dk_42 (dk_at dksX0_worth_0 2 rfl rfl)
theorem dX0_worth_3 : decode cX0_worth 3 = .ok (.iload_n 1, 1) := dk_27 (dk_at dksX0_worth_0 3 rfl rfl)
theorem dX0_worth_4 : decode cX0_worth 4 = .ok (.iload_n 2, 1) := dk_28 (dk_at dksX0_worth_0 4 rfl rfl)
theorem dX0_worth_5 : decode cX0_worth 5 = .ok (.invokevirtual 74, 3) := dk_182 0 74 (dk_at dksX0_worth_0 5 rfl rfl)
theorem dX0_worth_8 : decode cX0_worth 8 = .ok (.i2l, 1) := dk_133 (dk_at dksX0_worth_0 8 rfl rfl)
theorem dX0_worth_9 : decode cX0_worth 9 = .ok (.lastore, 1) := dk_80 (dk_at dksX0_worth_0 9 rfl rfl)
theorem dX0_worth_10 : decode cX0_worth 10 = .ok (.goto 7, 3) := dk_167 0 7 (dk_at dksX0_worth_0 10 rfl rfl)
theorem dX0_worth_13 : decode cX0_worth 13 = .ok (.astore 4, 2) := dk_58 4 (dk_at dksX0_worth_0 13 rfl rfl)
theorem dX0_worth_15 : decode cX0_worth 15 = .ok (.iconst 1, 1) := dk_4 (dk_at dksX0_worth_0 15 rfl rfl)
theorem dX0_worth_16 : decode cX0_worth 16 = .ok (.ireturn, 1) := dk_172 (dk_at dksX0_worth_0 16 rfl rfl)
theorem dX0_worth_17 : decode cX0_worth 17 = .ok (.iconst 0, 1) := dk_3 (dk_at dksX0_worth_0 17 rfl rfl)
theorem dX0_worth_18 : decode cX0_worth 18 = .ok (.ireturn, 1) := dk_172 (dk_at dksX0_worth_0 18 rfl rfl)
abbrev cX0_tithes : ByteArray := method_21_code
def yX0_tithes : MethodName := ⟨RX0, "tithes", "(LPloughWills;I[D)I"⟩
def dkwX0_tithes_0 : List UInt8 := [44, 3, 42, 27, 182, 0, 78, 141, 82, 167, 0, 6, 78, 4, 172, 3, 172]
abbrev dktX0_tithes_0 : List UInt8 := dkwX0_tithes_0 ++ []
theorem dksX0_tithes_0 : cX0_tithes.data.toList.drop 0 = dktX0_tithes_0 := by decide +kernel
theorem dX0_tithes_0 : decode cX0_tithes 0 = .ok (.aload_n 2, 1) := dk_44 (dk_at dksX0_tithes_0 0 rfl rfl)
theorem dX0_tithes_1 : decode cX0_tithes 1 = .ok (.iconst 0, 1) := dk_3 (dk_at dksX0_tithes_0 1 rfl rfl)
theorem dX0_tithes_2 : decode cX0_tithes 2 = .ok (.aload_n 0, 1) := dk_42 (dk_at dksX0_tithes_0 2 rfl rfl)
theorem dX0_tithes_3 : decode cX0_tithes 3 = .ok (.iload_n 1, 1) := dk_27 (dk_at dksX0_tithes_0 3 rfl rfl)
theorem dX0_tithes_4 : decode cX0_tithes 4 = .ok (.invokevirtual 78, 3) := dk_182 0 78 (dk_at dksX0_tithes_0 4 rfl rfl)
theorem dX0_tithes_7 : decode cX0_tithes 7 = .ok (.f2d, 1) := dk_141 (dk_at dksX0_tithes_0 7 rfl rfl)
theorem dX0_tithes_8 : decode cX0_tithes 8 = .ok (.dastore, 1) := dk_82 (dk_at dksX0_tithes_0 8 rfl rfl)
theorem dX0_tithes_9 : decode cX0_tithes 9 = .ok (.goto 6, 3) := dk_167 0 6 (dk_at dksX0_tithes_0 9 rfl rfl)
theorem dX0_tithes_12 : decode cX0_tithes 12 = .ok (.astore_n 3, 1) := dk_78 (dk_at dksX0_tithes_0 12 rfl rfl)
theorem dX0_tithes_13 : decode cX0_tithes 13 = .ok (.iconst 1, 1) := dk_4 (dk_at dksX0_tithes_0 13 rfl rfl)
theorem dX0_tithes_14 : decode cX0_tithes 14 = .ok (.ireturn, 1) := dk_172 (dk_at dksX0_tithes_0 14 rfl rfl)
theorem dX0_tithes_15 : decode cX0_tithes 15 = .ok (.iconst 0, 1) := dk_3 (dk_at dksX0_tithes_0 15 rfl rfl)
theorem dX0_tithes_16 : decode cX0_tithes 16 = .ok (.ireturn, 1) := dk_172 (dk_at dksX0_tithes_0 16 rfl rfl)
abbrev cX0_richest : ByteArray := method_22_code
def yX0_richest : MethodName := ⟨RX0, "richest", "(LPloughWills;[J)I"⟩
def dkwX0_richest_0 : List UInt8 := [43, 3, 42, 182, 0, 81, 133, 80, 167, 0, 6, 77, 4, 172, 3, 172]
abbrev dktX0_richest_0 : List UInt8 := dkwX0_richest_0 ++ []
theorem dksX0_richest_0 : cX0_richest.data.toList.drop 0 = dktX0_richest_0 := by decide +kernel
theorem dX0_richest_0 : decode cX0_richest 0 = .ok (.aload_n 1, 1) := dk_43 (dk_at dksX0_richest_0 0 rfl rfl)
theorem dX0_richest_1 : decode cX0_richest 1 = .ok (.iconst 0, 1) := dk_3 (dk_at dksX0_richest_0 1 rfl rfl)
theorem dX0_richest_2 : decode cX0_richest 2 = .ok (.aload_n 0, 1) := dk_42 (dk_at dksX0_richest_0 2 rfl rfl)
theorem dX0_richest_3 : decode cX0_richest 3 = .ok (.invokevirtual 81, 3) := dk_182 0 81 (dk_at dksX0_richest_0 3 rfl rfl)
theorem dX0_richest_6 : decode cX0_richest 6 = .ok (.i2l, 1) := dk_133 (dk_at dksX0_richest_0 6 rfl rfl)
theorem dX0_richest_7 : decode cX0_richest 7 = .ok (.lastore, 1) := dk_80 (dk_at dksX0_richest_0 7 rfl rfl)
theorem dX0_richest_8 : decode cX0_richest 8 = .ok (.goto 6, 3) := dk_167 0 6 (dk_at dksX0_richest_0 8 rfl rfl)
theorem dX0_richest_11 : decode cX0_richest 11 = .ok (.astore_n 2, 1) := dk_77 (dk_at dksX0_richest_0 11 rfl rfl)
theorem dX0_richest_12 : decode cX0_richest 12 = .ok (.iconst 1, 1) := dk_4 (dk_at dksX0_richest_0 12 rfl rfl)
theorem dX0_richest_13 : decode cX0_richest 13 = .ok (.ireturn, 1) := dk_172 (dk_at dksX0_richest_0 13 rfl rfl)
theorem dX0_richest_14 : decode cX0_richest 14 = .ok (.iconst 0, 1) := dk_3 (dk_at dksX0_richest_0 14 rfl rfl)
theorem dX0_richest_15 : decode cX0_richest 15 = .ok (.ireturn, 1) := dk_172 (dk_at dksX0_richest_0 15 rfl rfl)
abbrev cX0_character : ByteArray := method_23_code
def yX0_character : MethodName := ⟨RX0, "character", "(LPloughWills;I[J)I"⟩
def dkwX0_character_0 : List UInt8 := [44, 3, 42, 27, 182, 0, 85, 133, 80, 167, 0, 6, 78, 4, 172, 3, 172]
abbrev dktX0_character_0 : List UInt8 := dkwX0_character_0 ++ []
theorem dksX0_character_0 : cX0_character.data.toList.drop 0 = dktX0_character_0 := by decide +kernel
theorem dX0_character_0 : decode cX0_character 0 = .ok (.aload_n 2, 1) := dk_44 (dk_at dksX0_character_0 0 rfl rfl)
theorem dX0_character_1 : decode cX0_character 1 = .ok (.iconst 0, 1) := dk_3 (dk_at dksX0_character_0 1 rfl rfl)
theorem dX0_character_2 : decode cX0_character 2 = .ok (.aload_n 0, 1) := dk_42 (dk_at dksX0_character_0 2 rfl rfl)
theorem dX0_character_3 : decode cX0_character 3 = .ok (.iload_n 1, 1) := dk_27 (dk_at dksX0_character_0 3 rfl rfl)
theorem dX0_character_4 : decode cX0_character 4 = .ok (.invokevirtual 85, 3) := dk_182 0 85 (dk_at dksX0_character_0 4 rfl rfl)
theorem dX0_character_7 : decode cX0_character 7 = .ok (.i2l, 1) := dk_133 (dk_at dksX0_character_0 7 rfl rfl)
theorem dX0_character_8 : decode cX0_character 8 = .ok (.lastore, 1) := dk_80 (dk_at dksX0_character_0 8 rfl rfl)
theorem dX0_character_9 : decode cX0_character 9 = .ok (.goto 6, 3) := dk_167 0 6 (dk_at dksX0_character_0 9 rfl rfl)
theorem dX0_character_12 : decode cX0_character 12 = .ok (.astore_n 3, 1) := dk_78 (dk_at dksX0_character_0 12 rfl rfl)
theorem dX0_character_13 : decode cX0_character 13 = .ok (.iconst 1, 1) := dk_4 (dk_at dksX0_character_0 13 rfl rfl)
theorem dX0_character_14 : decode cX0_character 14 = .ok (.ireturn, 1) := dk_172 (dk_at dksX0_character_0 14 rfl rfl)
theorem dX0_character_15 : decode cX0_character 15 = .ok (.iconst 0, 1) := dk_3 (dk_at dksX0_character_0 15 rfl rfl)
theorem dX0_character_16 : decode cX0_character 16 = .ok (.ireturn, 1) := dk_172 (dk_at dksX0_character_0 16 rfl rfl)
abbrev cX0_append : ByteArray := method_24_code
def yX0_append : MethodName := ⟨RX0, "append", "(LPloughWills;C[J)I"⟩
def dkwX0_append_0 : List UInt8 := [44, 3, 42, 27, 182, 0, 89, 133, 80, 167, 0, 6, 78, 4, 172, 3, 172]
abbrev dktX0_append_0 : List UInt8 := dkwX0_append_0 ++ []
theorem dksX0_append_0 : cX0_append.data.toList.drop 0 = dktX0_append_0 := by decide +kernel
theorem dX0_append_0 : decode cX0_append 0 = .ok (.aload_n 2, 1) := dk_44 (dk_at dksX0_append_0 0 rfl rfl)
theorem dX0_append_1 : decode cX0_append 1 = .ok (.iconst 0, 1) := dk_3 (dk_at dksX0_append_0 1 rfl rfl)
theorem dX0_append_2 : decode cX0_append 2 = .ok (.aload_n 0, 1) := dk_42 (dk_at dksX0_append_0 2 rfl rfl)
theorem dX0_append_3 : decode cX0_append 3 = .ok (.iload_n 1, 1) := dk_27 (dk_at dksX0_append_0 3 rfl rfl)
theorem dX0_append_4 : decode cX0_append 4 = .ok (.invokevirtual 89, 3) := dk_182 0 89 (dk_at dksX0_append_0 4 rfl rfl)
theorem dX0_append_7 : decode cX0_append 7 = .ok (.i2l, 1) := dk_133 (dk_at dksX0_append_0 7 rfl rfl)
theorem dX0_append_8 : decode cX0_append 8 = .ok (.lastore, 1) := dk_80 (dk_at dksX0_append_0 8 rfl rfl)
theorem dX0_append_9 : decode cX0_append 9 = .ok (.goto 6, 3) := dk_167 0 6 (dk_at dksX0_append_0 9 rfl rfl)
theorem dX0_append_12 : decode cX0_append 12 = .ok (.astore_n 3, 1) := dk_78 (dk_at dksX0_append_0 12 rfl rfl)
theorem dX0_append_13 : decode cX0_append 13 = .ok (.iconst 1, 1) := dk_4 (dk_at dksX0_append_0 13 rfl rfl)
theorem dX0_append_14 : decode cX0_append 14 = .ok (.ireturn, 1) := dk_172 (dk_at dksX0_append_0 14 rfl rfl)
theorem dX0_append_15 : decode cX0_append 15 = .ok (.iconst 0, 1) := dk_3 (dk_at dksX0_append_0 15 rfl rfl)
theorem dX0_append_16 : decode cX0_append 16 = .ok (.ireturn, 1) := dk_172 (dk_at dksX0_append_0 16 rfl rfl)
abbrev cX0_read : ByteArray := method_25_code
def yX0_read : MethodName := ⟨RX0, "read", "(LPloughWills;[J)I"⟩
def dkwX0_read_0 : List UInt8 := [43, 3, 42, 182, 0, 95, 133, 80, 167, 0, 9, 77, 4, 172, 77, 5, 172, 3, 172]
abbrev dktX0_read_0 : List UInt8 := dkwX0_read_0 ++ []
theorem dksX0_read_0 : cX0_read.data.toList.drop 0 = dktX0_read_0 := by decide +kernel
theorem dX0_read_0 : decode cX0_read 0 = .ok (.aload_n 1, 1) := dk_43 (dk_at dksX0_read_0 0 rfl rfl)
theorem dX0_read_1 : decode cX0_read 1 = .ok (.iconst 0, 1) := dk_3 (dk_at dksX0_read_0 1 rfl rfl)
theorem dX0_read_2 : decode cX0_read 2 = .ok (.aload_n 0, 1) := dk_42 (dk_at dksX0_read_0 2 rfl rfl)
theorem dX0_read_3 : decode cX0_read 3 = .ok (.invokevirtual 95, 3) := dk_182 0 95 (dk_at dksX0_read_0 3 rfl rfl)
theorem dX0_read_6 : decode cX0_read 6 = .ok (.i2l, 1) := dk_133 (dk_at dksX0_read_0 6 rfl rfl)
theorem dX0_read_7 : decode cX0_read 7 = .ok (.lastore, 1) := dk_80 (dk_at dksX0_read_0 7 rfl rfl)
theorem dX0_read_8 : decode cX0_read 8 = .ok (.goto 9, 3) := dk_167 0 9 (dk_at dksX0_read_0 8 rfl rfl)
theorem dX0_read_11 : decode cX0_read 11 = .ok (.astore_n 2, 1) := dk_77 (dk_at dksX0_read_0 11 rfl rfl)
theorem dX0_read_12 : decode cX0_read 12 = .ok (.iconst 1, 1) := dk_4 (dk_at dksX0_read_0 12 rfl rfl)
theorem dX0_read_13 : decode cX0_read 13 = .ok (.ireturn, 1) := dk_172 (dk_at dksX0_read_0 13 rfl rfl)
theorem dX0_read_14 : decode cX0_read 14 = .ok (.astore_n 2, 1) := dk_77 (dk_at dksX0_read_0 14 rfl rfl)
theorem dX0_read_15 : decode cX0_read 15 = .ok (.iconst 2, 1) := dk_5 (dk_at dksX0_read_0 15 rfl rfl)
theorem dX0_read_16 : decode cX0_read 16 = .ok (.ireturn, 1) := dk_172 (dk_at dksX0_read_0 16 rfl rfl)
theorem dX0_read_17 : decode cX0_read 17 = .ok (.iconst 0, 1) := dk_3 (dk_at dksX0_read_0 17 rfl rfl)
theorem dX0_read_18 : decode cX0_read 18 = .ok (.ireturn, 1) := dk_172 (dk_at dksX0_read_0 18 rfl rfl)
abbrev cX0_refusal : ByteArray := method_26_code
def yX0_refusal : MethodName := ⟨RX0, "refusal", "(LPloughWills;Z[J)I"⟩
def dkwX0_refusal_0 : List UInt8 := [44, 3, 42, 27, 182, 0, 98, 133, 80, 167, 0, 6, 78, 4, 172, 3, 172]
abbrev dktX0_refusal_0 : List UInt8 := dkwX0_refusal_0 ++ []
theorem dksX0_refusal_0 : cX0_refusal.data.toList.drop 0 = dktX0_refusal_0 := by decide +kernel
theorem dX0_refusal_0 : decode cX0_refusal 0 = .ok (.aload_n 2, 1) := dk_44 (dk_at dksX0_refusal_0 0 rfl rfl)
theorem dX0_refusal_1 : decode cX0_refusal 1 = .ok (.iconst 0, 1) := dk_3 (dk_at dksX0_refusal_0 1 rfl rfl)
theorem dX0_refusal_2 : decode cX0_refusal 2 = .ok (.aload_n 0, 1) := dk_42 (dk_at dksX0_refusal_0 2 rfl rfl)
theorem dX0_refusal_3 : decode cX0_refusal 3 = .ok (.iload_n 1, 1) := dk_27 (dk_at dksX0_refusal_0 3 rfl rfl)
theorem dX0_refusal_4 : decode cX0_refusal 4 = .ok (.invokevirtual 98, 3) := dk_182 0 98 (dk_at dksX0_refusal_0 4 rfl rfl)
theorem dX0_refusal_7 : decode cX0_refusal 7 = .ok (.i2l, 1) := dk_133 (dk_at dksX0_refusal_0 7 rfl rfl)
theorem dX0_refusal_8 : decode cX0_refusal 8 = .ok (.lastore, 1) := dk_80 (dk_at dksX0_refusal_0 8 rfl rfl)
theorem dX0_refusal_9 : decode cX0_refusal 9 = .ok (.goto 6, 3) := dk_167 0 6 (dk_at dksX0_refusal_0 9 rfl rfl)
theorem dX0_refusal_12 : decode cX0_refusal 12 = .ok (.astore_n 3, 1) := dk_78 (dk_at dksX0_refusal_0 12 rfl rfl)
theorem dX0_refusal_13 : decode cX0_refusal 13 = .ok (.iconst 1, 1) := dk_4 (dk_at dksX0_refusal_0 13 rfl rfl)
theorem dX0_refusal_14 : decode cX0_refusal 14 = .ok (.ireturn, 1) := dk_172 (dk_at dksX0_refusal_0 14 rfl rfl)
theorem dX0_refusal_15 : decode cX0_refusal 15 = .ok (.iconst 0, 1) := dk_3 (dk_at dksX0_refusal_0 15 rfl rfl)
theorem dX0_refusal_16 : decode cX0_refusal 16 = .ok (.ireturn, 1) := dk_172 (dk_at dksX0_refusal_0 16 rfl rfl)
abbrev cX0_account : ByteArray := method_27_code
def yX0_account : MethodName := ⟨RX0, "account", "(LPloughWills;I[J)I"⟩
def dkwX0_account_0 : List UInt8 := [44, 3, 42, 27, 182, 0, 102, 133, 80, 167, 0, 6, 78, 4, 172, 3, 172]
abbrev dktX0_account_0 : List UInt8 := dkwX0_account_0 ++ []
theorem dksX0_account_0 : cX0_account.data.toList.drop 0 = dktX0_account_0 := by decide +kernel
theorem dX0_account_0 : decode cX0_account 0 = .ok (.aload_n 2, 1) := dk_44 (dk_at dksX0_account_0 0 rfl rfl)
theorem dX0_account_1 : decode cX0_account 1 = .ok (.iconst 0, 1) := dk_3 (dk_at dksX0_account_0 1 rfl rfl)
theorem dX0_account_2 : decode cX0_account 2 = .ok (.aload_n 0, 1) := dk_42 (dk_at dksX0_account_0 2 rfl rfl)
theorem dX0_account_3 : decode cX0_account 3 = .ok (.iload_n 1, 1) := dk_27 (dk_at dksX0_account_0 3 rfl rfl)
theorem dX0_account_4 : decode cX0_account 4 = .ok (.invokevirtual 102, 3) := dk_182 0 102 (dk_at dksX0_account_0 4 rfl rfl)
theorem dX0_account_7 : decode cX0_account 7 = .ok (.i2l, 1) := dk_133 (dk_at dksX0_account_0 7 rfl rfl)
theorem dX0_account_8 : decode cX0_account 8 = .ok (.lastore, 1) := dk_80 (dk_at dksX0_account_0 8 rfl rfl)
theorem dX0_account_9 : decode cX0_account 9 = .ok (.goto 6, 3) := dk_167 0 6 (dk_at dksX0_account_0 9 rfl rfl)
theorem dX0_account_12 : decode cX0_account 12 = .ok (.astore_n 3, 1) := dk_78 (dk_at dksX0_account_0 12 rfl rfl)
theorem dX0_account_13 : decode cX0_account 13 = .ok (.iconst 1, 1) := dk_4 (dk_at dksX0_account_0 13 rfl rfl)
theorem dX0_account_14 : decode cX0_account 14 = .ok (.ireturn, 1) := dk_172 (dk_at dksX0_account_0 14 rfl rfl)
theorem dX0_account_15 : decode cX0_account 15 = .ok (.iconst 0, 1) := dk_3 (dk_at dksX0_account_0 15 rfl rfl)
theorem dX0_account_16 : decode cX0_account 16 = .ok (.ireturn, 1) := dk_172 (dk_at dksX0_account_0 16 rfl rfl)
abbrev cX0_meanWorth : ByteArray := method_28_code
def yX0_meanWorth : MethodName := ⟨RX0, "meanWorth", "(LPloughWills;[D)I"⟩
def dkwX0_meanWorth_0 : List UInt8 := [43, 3, 42, 182, 0, 105, 82, 167, 0, 6, 77, 4, 172, 3, 172]
abbrev dktX0_meanWorth_0 : List UInt8 := dkwX0_meanWorth_0 ++ []
theorem dksX0_meanWorth_0 : cX0_meanWorth.data.toList.drop 0 = dktX0_meanWorth_0 := by decide +kernel
theorem dX0_meanWorth_0 : decode cX0_meanWorth 0 = .ok (.aload_n 1, 1) := dk_43 (dk_at dksX0_meanWorth_0 0 rfl rfl)
theorem dX0_meanWorth_1 : decode cX0_meanWorth 1 = .ok (.iconst 0, 1) := dk_3 (dk_at dksX0_meanWorth_0 1 rfl rfl)
theorem dX0_meanWorth_2 : decode cX0_meanWorth 2 = .ok (.aload_n 0, 1) := dk_42 (dk_at dksX0_meanWorth_0 2 rfl rfl)
theorem dX0_meanWorth_3 : decode cX0_meanWorth 3 = .ok (.invokevirtual 105, 3) := dk_182 0 105 (dk_at dksX0_meanWorth_0 3 rfl rfl)
theorem dX0_meanWorth_6 : decode cX0_meanWorth 6 = .ok (.dastore, 1) := dk_82 (dk_at dksX0_meanWorth_0 6 rfl rfl)
theorem dX0_meanWorth_7 : decode cX0_meanWorth 7 = .ok (.goto 6, 3) := dk_167 0 6 (dk_at dksX0_meanWorth_0 7 rfl rfl)
theorem dX0_meanWorth_10 : decode cX0_meanWorth 10 = .ok (.astore_n 2, 1) := dk_77 (dk_at dksX0_meanWorth_0 10 rfl rfl)
theorem dX0_meanWorth_11 : decode cX0_meanWorth 11 = .ok (.iconst 1, 1) := dk_4 (dk_at dksX0_meanWorth_0 11 rfl rfl)
theorem dX0_meanWorth_12 : decode cX0_meanWorth 12 = .ok (.ireturn, 1) := dk_172 (dk_at dksX0_meanWorth_0 12 rfl rfl)
theorem dX0_meanWorth_13 : decode cX0_meanWorth 13 = .ok (.iconst 0, 1) := dk_3 (dk_at dksX0_meanWorth_0 13 rfl rfl)
theorem dX0_meanWorth_14 : decode cX0_meanWorth 14 = .ok (.ireturn, 1) := dk_172 (dk_at dksX0_meanWorth_0 14 rfl rfl)
abbrev cX0_undo : ByteArray := method_29_code
def yX0_undo : MethodName := ⟨RX0, "undo", "(LPloughWills;[J)I"⟩
def dkwX0_undo_0 : List UInt8 := [43, 3, 42, 182, 0, 111, 133, 80, 167, 0, 6, 77, 4, 172, 3, 172]
abbrev dktX0_undo_0 : List UInt8 := dkwX0_undo_0 ++ []
theorem dksX0_undo_0 : cX0_undo.data.toList.drop 0 = dktX0_undo_0 := by decide +kernel
theorem dX0_undo_0 : decode cX0_undo 0 = .ok (.aload_n 1, 1) := dk_43 (dk_at dksX0_undo_0 0 rfl rfl)
theorem dX0_undo_1 : decode cX0_undo 1 = .ok (.iconst 0, 1) := dk_3 (dk_at dksX0_undo_0 1 rfl rfl)
theorem dX0_undo_2 : decode cX0_undo 2 = .ok (.aload_n 0, 1) := dk_42 (dk_at dksX0_undo_0 2 rfl rfl)
theorem dX0_undo_3 : decode cX0_undo 3 = .ok (.invokevirtual 111, 3) := dk_182 0 111 (dk_at dksX0_undo_0 3 rfl rfl)
theorem dX0_undo_6 : decode cX0_undo 6 = .ok (.i2l, 1) := dk_133 (dk_at dksX0_undo_0 6 rfl rfl)
theorem dX0_undo_7 : decode cX0_undo 7 = .ok (.lastore, 1) := dk_80 (dk_at dksX0_undo_0 7 rfl rfl)
theorem dX0_undo_8 : decode cX0_undo 8 = .ok (.goto 6, 3) := dk_167 0 6 (dk_at dksX0_undo_0 8 rfl rfl)
theorem dX0_undo_11 : decode cX0_undo 11 = .ok (.astore_n 2, 1) := dk_77 (dk_at dksX0_undo_0 11 rfl rfl)
theorem dX0_undo_12 : decode cX0_undo 12 = .ok (.iconst 1, 1) := dk_4 (dk_at dksX0_undo_0 12 rfl rfl)
theorem dX0_undo_13 : decode cX0_undo 13 = .ok (.ireturn, 1) := dk_172 (dk_at dksX0_undo_0 13 rfl rfl)
theorem dX0_undo_14 : decode cX0_undo 14 = .ok (.iconst 0, 1) := dk_3 (dk_at dksX0_undo_0 14 rfl rfl)
theorem dX0_undo_15 : decode cX0_undo 15 = .ok (.ireturn, 1) := dk_172 (dk_at dksX0_undo_0 15 rfl rfl)
abbrev cX0_restore : ByteArray := method_30_code
def yX0_restore : MethodName := ⟨RX0, "restore", "(LPloughWills;[J)I"⟩
def dkwX0_restore_0 : List UInt8 := [43, 3, 42, 182, 0, 114, 133, 80, 167, 0, 6, 77, 4, 172, 3, 172]
abbrev dktX0_restore_0 : List UInt8 := dkwX0_restore_0 ++ []
theorem dksX0_restore_0 : cX0_restore.data.toList.drop 0 = dktX0_restore_0 := by decide +kernel
theorem dX0_restore_0 : decode cX0_restore 0 = .ok (.aload_n 1, 1) := dk_43 (dk_at dksX0_restore_0 0 rfl rfl)
theorem dX0_restore_1 : decode cX0_restore 1 = .ok (.iconst 0, 1) := dk_3 (dk_at dksX0_restore_0 1 rfl rfl)
theorem dX0_restore_2 : decode cX0_restore 2 = .ok (.aload_n 0, 1) := dk_42 (dk_at dksX0_restore_0 2 rfl rfl)
theorem dX0_restore_3 : decode cX0_restore 3 = .ok (.invokevirtual 114, 3) := dk_182 0 114 (dk_at dksX0_restore_0 3 rfl rfl)
theorem dX0_restore_6 : decode cX0_restore 6 = .ok (.i2l, 1) := dk_133 (dk_at dksX0_restore_0 6 rfl rfl)
theorem dX0_restore_7 : decode cX0_restore 7 = .ok (.lastore, 1) := dk_80 (dk_at dksX0_restore_0 7 rfl rfl)
theorem dX0_restore_8 : decode cX0_restore 8 = .ok (.goto 6, 3) := dk_167 0 6 (dk_at dksX0_restore_0 8 rfl rfl)
theorem dX0_restore_11 : decode cX0_restore 11 = .ok (.astore_n 2, 1) := dk_77 (dk_at dksX0_restore_0 11 rfl rfl)
theorem dX0_restore_12 : decode cX0_restore 12 = .ok (.iconst 1, 1) := dk_4 (dk_at dksX0_restore_0 12 rfl rfl)
theorem dX0_restore_13 : decode cX0_restore 13 = .ok (.ireturn, 1) := dk_172 (dk_at dksX0_restore_0 13 rfl rfl)
theorem dX0_restore_14 : decode cX0_restore 14 = .ok (.iconst 0, 1) := dk_3 (dk_at dksX0_restore_0 14 rfl rfl)
theorem dX0_restore_15 : decode cX0_restore 15 = .ok (.ireturn, 1) := dk_172 (dk_at dksX0_restore_0 15 rfl rfl)
theorem q75 : (Jvm.Cond.initialized "PloughWillsLaw") ∈ lw_all := lw_g (lw_at lw_m1 0 rfl) rfl
theorem q118 : (Jvm.Cond.classLink "PloughWillsLaw" (8 : Nat) "PloughWills") ∈ lw_all := lw_g (lw_at lw_m1 43 rfl) rfl
theorem q120 : (Jvm.Cond.methodLink "PloughWillsLaw" (117 : Nat) ({ cls := "PloughWills", name := "<init>", desc := "()V" } : Jvm.MethodName)) ∈ lw_all := lw_g (lw_at lw_m1 45 rfl) rfl
theorem q588 : (Jvm.Cond.methodLink "PloughWillsLaw" (170 : Nat) ({ cls := "PloughWills", name := "isSound", desc := "(Z)Z" } : Jvm.MethodName)) ∈ lw_all := lw_g (lw_at lw_m3 33 rfl) rfl
theorem q707 : (Jvm.Cond.methodLink "PloughWillsLaw" (181 : Nat) ({ cls := "PloughWills", name := "paths", desc := "()I" } : Jvm.MethodName)) ∈ lw_all := lw_g (lw_at lw_m3 152 rfl) rfl
theorem q711 : (Jvm.Cond.methodLink "PloughWillsLaw" (202 : Nat) ({ cls := "PloughWills", name := "line", desc := "()I" } : Jvm.MethodName)) ∈ lw_all := lw_g (lw_at lw_m3 156 rfl) rfl
theorem q1043 : (Jvm.Cond.methodLink "PloughWillsLaw" (216 : Nat) ({ cls := "PloughWills", name := "errorPosition", desc := "()I" } : Jvm.MethodName)) ∈ lw_all := lw_g (lw_at lw_m5 8 rfl) rfl
theorem q1047 : (Jvm.Cond.methodLink "PloughWillsLaw" (227 : Nat) ({ cls := "PloughWills", name := "isWell", desc := "()Z" } : Jvm.MethodName)) ∈ lw_all := lw_g (lw_at lw_m5 12 rfl) rfl
theorem q1077 : (Jvm.Cond.methodLink "PloughWillsLaw" (239 : Nat) ({ cls := "PloughWills", name := "save", desc := "()I" } : Jvm.MethodName)) ∈ lw_all := lw_g (lw_at lw_m5 42 rfl) rfl
theorem q1086 : (Jvm.Cond.methodLink "PloughWillsLaw" (121 : Nat) ({ cls := "PloughWillsLaw", name := "good", desc := "(LPloughWills;II[J)I" } : Jvm.MethodName)) ∈ lw_all := lw_g (lw_at lw_m5 51 rfl) rfl
theorem q1087 : (Jvm.Cond.static ({ cls := "PloughWillsLaw", name := "good", desc := "(LPloughWills;II[J)I" } : Jvm.MethodName)) ∈ lw_all := lw_g (lw_at lw_m5 52 rfl) rfl
theorem q1088 : (Jvm.Cond.codeWith ({ cls := "PloughWillsLaw", name := "good", desc := "(LPloughWills;II[J)I" } : Jvm.MethodName) method_3_code (5 : Nat) (Option.some Jvm.ClassFile.FieldType.int) [((0 : Nat), (10 : Nat), (13 : Nat), (13 : Nat)), ((0 : Nat), (10 : Nat), (17 : Nat), (15 : Nat))]) ∈ lw_all := lw_g (lw_at lw_m5 53 rfl) rfl
theorem q1089 : (Jvm.Cond.classLink "PloughWillsLaw" (13 : Nat) "java/lang/IllegalArgumentException") ∈ lw_all := lw_g (lw_at lw_m5 54 rfl) rfl
theorem q1090 : (Jvm.Cond.classLink "PloughWillsLaw" (15 : Nat) "java/lang/UnsupportedOperationException") ∈ lw_all := lw_g (lw_at lw_m5 55 rfl) rfl
theorem q1091 : (Jvm.Cond.methodLink "PloughWillsLaw" (7 : Nat) ({ cls := "PloughWills", name := "good", desc := "(II)I" } : Jvm.MethodName)) ∈ lw_all := lw_g (lw_at lw_m5 56 rfl) rfl
theorem q1228 : (Jvm.Cond.methodLink "PloughWillsLaw" (130 : Nat) ({ cls := "PloughWillsLaw", name := "put", desc := "(LPloughWills;II[J)I" } : Jvm.MethodName)) ∈ lw_all := lw_g (lw_at lw_m5 193 rfl) rfl
theorem q1229 : (Jvm.Cond.static ({ cls := "PloughWillsLaw", name := "put", desc := "(LPloughWills;II[J)I" } : Jvm.MethodName)) ∈ lw_all := lw_g (lw_at lw_m5 194 rfl) rfl
theorem q1230 : (Jvm.Cond.codeWith ({ cls := "PloughWillsLaw", name := "put", desc := "(LPloughWills;II[J)I" } : Jvm.MethodName) method_4_code (5 : Nat) (Option.some Jvm.ClassFile.FieldType.int) [((0 : Nat), (10 : Nat), (13 : Nat), (20 : Nat)), ((0 : Nat), (10 : Nat), (17 : Nat), (13 : Nat)), ((0 : Nat), (10 : Nat), (21 : Nat), (15 : Nat))]) ∈ lw_all := lw_g (lw_at lw_m5 195 rfl) rfl
theorem q1231 : (Jvm.Cond.classLink "PloughWillsLaw" (20 : Nat) "java/lang/IndexOutOfBoundsException") ∈ lw_all := lw_g (lw_at lw_m5 196 rfl) rfl
theorem q1234 : (Jvm.Cond.methodLink "PloughWillsLaw" (17 : Nat) ({ cls := "PloughWills", name := "put", desc := "(II)I" } : Jvm.MethodName)) ∈ lw_all := lw_g (lw_at lw_m5 199 rfl) rfl
theorem q1294 : (Jvm.Cond.methodLink "PloughWillsLaw" (133 : Nat) ({ cls := "PloughWillsLaw", name := "takeOut", desc := "(LPloughWills;I[J)I" } : Jvm.MethodName)) ∈ lw_all := lw_g (lw_at lw_m6 19 rfl) rfl
theorem q1295 : (Jvm.Cond.static ({ cls := "PloughWillsLaw", name := "takeOut", desc := "(LPloughWills;I[J)I" } : Jvm.MethodName)) ∈ lw_all := lw_g (lw_at lw_m6 20 rfl) rfl
theorem q1296 : (Jvm.Cond.codeWith ({ cls := "PloughWillsLaw", name := "takeOut", desc := "(LPloughWills;I[J)I" } : Jvm.MethodName) method_5_code (4 : Nat) (Option.some Jvm.ClassFile.FieldType.int) [((0 : Nat), (9 : Nat), (12 : Nat), (20 : Nat)), ((0 : Nat), (9 : Nat), (15 : Nat), (15 : Nat))]) ∈ lw_all := lw_g (lw_at lw_m6 21 rfl) rfl
theorem q1297 : (Jvm.Cond.methodLink "PloughWillsLaw" (22 : Nat) ({ cls := "PloughWills", name := "takeOut", desc := "(I)I" } : Jvm.MethodName)) ∈ lw_all := lw_g (lw_at lw_m6 22 rfl) rfl
theorem q1305 : (Jvm.Cond.methodLink "PloughWillsLaw" (137 : Nat) ({ cls := "PloughWillsLaw", name := "rate", desc := "(LPloughWills;II[J)I" } : Jvm.MethodName)) ∈ lw_all := lw_g (lw_at lw_m6 30 rfl) rfl
theorem q1306 : (Jvm.Cond.static ({ cls := "PloughWillsLaw", name := "rate", desc := "(LPloughWills;II[J)I" } : Jvm.MethodName)) ∈ lw_all := lw_g (lw_at lw_m6 31 rfl) rfl
theorem q1307 : (Jvm.Cond.codeWith ({ cls := "PloughWillsLaw", name := "rate", desc := "(LPloughWills;II[J)I" } : Jvm.MethodName) method_6_code (5 : Nat) (Option.some Jvm.ClassFile.FieldType.int) [((0 : Nat), (10 : Nat), (13 : Nat), (13 : Nat)), ((0 : Nat), (10 : Nat), (17 : Nat), (15 : Nat))]) ∈ lw_all := lw_g (lw_at lw_m6 32 rfl) rfl
theorem q1308 : (Jvm.Cond.methodLink "PloughWillsLaw" (26 : Nat) ({ cls := "PloughWills", name := "rate", desc := "(II)I" } : Jvm.MethodName)) ∈ lw_all := lw_g (lw_at lw_m6 33 rfl) rfl
theorem q1317 : (Jvm.Cond.methodLink "PloughWillsLaw" (140 : Nat) ({ cls := "PloughWillsLaw", name := "goodOf", desc := "(LPloughWills;II[J)I" } : Jvm.MethodName)) ∈ lw_all := lw_g (lw_at lw_m6 42 rfl) rfl
theorem q1318 : (Jvm.Cond.static ({ cls := "PloughWillsLaw", name := "goodOf", desc := "(LPloughWills;II[J)I" } : Jvm.MethodName)) ∈ lw_all := lw_g (lw_at lw_m6 43 rfl) rfl
theorem q1319 : (Jvm.Cond.codeWith ({ cls := "PloughWillsLaw", name := "goodOf", desc := "(LPloughWills;II[J)I" } : Jvm.MethodName) method_7_code (5 : Nat) (Option.some Jvm.ClassFile.FieldType.int) [((0 : Nat), (10 : Nat), (13 : Nat), (20 : Nat)), ((0 : Nat), (10 : Nat), (17 : Nat), (13 : Nat))]) ∈ lw_all := lw_g (lw_at lw_m6 44 rfl) rfl
theorem q1320 : (Jvm.Cond.methodLink "PloughWillsLaw" (29 : Nat) ({ cls := "PloughWills", name := "goodOf", desc := "(II)I" } : Jvm.MethodName)) ∈ lw_all := lw_g (lw_at lw_m6 45 rfl) rfl
theorem q1330 : (Jvm.Cond.methodLink "PloughWillsLaw" (143 : Nat) ({ cls := "PloughWillsLaw", name := "chestAt", desc := "(LPloughWills;II[J)I" } : Jvm.MethodName)) ∈ lw_all := lw_g (lw_at lw_m6 55 rfl) rfl
theorem q1331 : (Jvm.Cond.static ({ cls := "PloughWillsLaw", name := "chestAt", desc := "(LPloughWills;II[J)I" } : Jvm.MethodName)) ∈ lw_all := lw_g (lw_at lw_m6 56 rfl) rfl
theorem q1332 : (Jvm.Cond.codeWith ({ cls := "PloughWillsLaw", name := "chestAt", desc := "(LPloughWills;II[J)I" } : Jvm.MethodName) method_8_code (5 : Nat) (Option.some Jvm.ClassFile.FieldType.int) [((0 : Nat), (10 : Nat), (13 : Nat), (13 : Nat)), ((0 : Nat), (10 : Nat), (17 : Nat), (35 : Nat))]) ∈ lw_all := lw_g (lw_at lw_m6 57 rfl) rfl
theorem q1333 : (Jvm.Cond.classLink "PloughWillsLaw" (35 : Nat) "java/util/NoSuchElementException") ∈ lw_all := lw_g (lw_at lw_m6 58 rfl) rfl
theorem q1334 : (Jvm.Cond.methodLink "PloughWillsLaw" (32 : Nat) ({ cls := "PloughWills", name := "chestAt", desc := "(II)I" } : Jvm.MethodName)) ∈ lw_all := lw_g (lw_at lw_m6 59 rfl) rfl
theorem q1357 : (Jvm.Cond.methodLink "PloughWillsLaw" (146 : Nat) ({ cls := "PloughWillsLaw", name := "tithe", desc := "(LPloughWills;I[D)I" } : Jvm.MethodName)) ∈ lw_all := lw_g (lw_at lw_m6 82 rfl) rfl
theorem q1358 : (Jvm.Cond.static ({ cls := "PloughWillsLaw", name := "tithe", desc := "(LPloughWills;I[D)I" } : Jvm.MethodName)) ∈ lw_all := lw_g (lw_at lw_m6 83 rfl) rfl
theorem q1359 : (Jvm.Cond.codeWith ({ cls := "PloughWillsLaw", name := "tithe", desc := "(LPloughWills;I[D)I" } : Jvm.MethodName) method_9_code (4 : Nat) (Option.some Jvm.ClassFile.FieldType.int) [((0 : Nat), (9 : Nat), (12 : Nat), (20 : Nat))]) ∈ lw_all := lw_g (lw_at lw_m6 84 rfl) rfl
theorem q1360 : (Jvm.Cond.methodLink "PloughWillsLaw" (37 : Nat) ({ cls := "PloughWills", name := "tithe", desc := "(I)F" } : Jvm.MethodName)) ∈ lw_all := lw_g (lw_at lw_m6 85 rfl) rfl
theorem q1368 : (Jvm.Cond.methodLink "PloughWillsLaw" (150 : Nat) ({ cls := "PloughWillsLaw", name := "rateBits", desc := "(LPloughWills;I[J)I" } : Jvm.MethodName)) ∈ lw_all := lw_g (lw_at lw_m6 93 rfl) rfl
theorem q1369 : (Jvm.Cond.static ({ cls := "PloughWillsLaw", name := "rateBits", desc := "(LPloughWills;I[J)I" } : Jvm.MethodName)) ∈ lw_all := lw_g (lw_at lw_m6 94 rfl) rfl
theorem q1370 : (Jvm.Cond.codeWith ({ cls := "PloughWillsLaw", name := "rateBits", desc := "(LPloughWills;I[J)I" } : Jvm.MethodName) method_10_code (4 : Nat) (Option.some Jvm.ClassFile.FieldType.int) [((0 : Nat), (9 : Nat), (12 : Nat), (13 : Nat))]) ∈ lw_all := lw_g (lw_at lw_m6 95 rfl) rfl
theorem q1371 : (Jvm.Cond.methodLink "PloughWillsLaw" (41 : Nat) ({ cls := "PloughWills", name := "rateBits", desc := "(I)I" } : Jvm.MethodName)) ∈ lw_all := lw_g (lw_at lw_m6 96 rfl) rfl
theorem q1385 : (Jvm.Cond.methodLink "PloughWillsLaw" (153 : Nat) ({ cls := "PloughWillsLaw", name := "add", desc := "(LPloughWills;III[J)I" } : Jvm.MethodName)) ∈ lw_all := lw_g (lw_at lw_m6 110 rfl) rfl
theorem q1386 : (Jvm.Cond.static ({ cls := "PloughWillsLaw", name := "add", desc := "(LPloughWills;III[J)I" } : Jvm.MethodName)) ∈ lw_all := lw_g (lw_at lw_m6 111 rfl) rfl
theorem q1387 : (Jvm.Cond.codeWith ({ cls := "PloughWillsLaw", name := "add", desc := "(LPloughWills;III[J)I" } : Jvm.MethodName) method_11_code (6 : Nat) (Option.some Jvm.ClassFile.FieldType.int) [((0 : Nat), (12 : Nat), (15 : Nat), (13 : Nat)), ((0 : Nat), (12 : Nat), (19 : Nat), (15 : Nat))]) ∈ lw_all := lw_g (lw_at lw_m6 112 rfl) rfl
theorem q1388 : (Jvm.Cond.methodLink "PloughWillsLaw" (44 : Nat) ({ cls := "PloughWills", name := "add", desc := "(III)I" } : Jvm.MethodName)) ∈ lw_all := lw_g (lw_at lw_m6 113 rfl) rfl
theorem q1408 : (Jvm.Cond.methodLink "PloughWillsLaw" (157 : Nat) ({ cls := "PloughWillsLaw", name := "insert", desc := "(LPloughWills;IIII[J)I" } : Jvm.MethodName)) ∈ lw_all := lw_g (lw_at lw_m6 133 rfl) rfl
theorem q1409 : (Jvm.Cond.static ({ cls := "PloughWillsLaw", name := "insert", desc := "(LPloughWills;IIII[J)I" } : Jvm.MethodName)) ∈ lw_all := lw_g (lw_at lw_m6 134 rfl) rfl
theorem q1410 : (Jvm.Cond.codeWith ({ cls := "PloughWillsLaw", name := "insert", desc := "(LPloughWills;IIII[J)I" } : Jvm.MethodName) method_12_code (7 : Nat) (Option.some Jvm.ClassFile.FieldType.int) [((0 : Nat), (14 : Nat), (17 : Nat), (20 : Nat)), ((0 : Nat), (14 : Nat), (21 : Nat), (13 : Nat)), ((0 : Nat), (14 : Nat), (25 : Nat), (15 : Nat))]) ∈ lw_all := lw_g (lw_at lw_m6 135 rfl) rfl
theorem q1411 : (Jvm.Cond.methodLink "PloughWillsLaw" (48 : Nat) ({ cls := "PloughWills", name := "insert", desc := "(IIII)I" } : Jvm.MethodName)) ∈ lw_all := lw_g (lw_at lw_m6 136 rfl) rfl
theorem q1415 : (Jvm.Cond.methodLink "PloughWillsLaw" (161 : Nat) ({ cls := "PloughWillsLaw", name := "remove", desc := "(LPloughWills;I[J)I" } : Jvm.MethodName)) ∈ lw_all := lw_g (lw_at lw_m6 140 rfl) rfl
theorem q1416 : (Jvm.Cond.static ({ cls := "PloughWillsLaw", name := "remove", desc := "(LPloughWills;I[J)I" } : Jvm.MethodName)) ∈ lw_all := lw_g (lw_at lw_m6 141 rfl) rfl
theorem q1417 : (Jvm.Cond.codeWith ({ cls := "PloughWillsLaw", name := "remove", desc := "(LPloughWills;I[J)I" } : Jvm.MethodName) method_13_code (4 : Nat) (Option.some Jvm.ClassFile.FieldType.int) [((0 : Nat), (9 : Nat), (12 : Nat), (20 : Nat))]) ∈ lw_all := lw_g (lw_at lw_m6 142 rfl) rfl
theorem q1418 : (Jvm.Cond.methodLink "PloughWillsLaw" (52 : Nat) ({ cls := "PloughWills", name := "remove", desc := "(I)I" } : Jvm.MethodName)) ∈ lw_all := lw_g (lw_at lw_m6 143 rfl) rfl
theorem q1430 : (Jvm.Cond.methodLink "PloughWillsLaw" (164 : Nat) ({ cls := "PloughWillsLaw", name := "clauseOf", desc := "(LPloughWills;II[J)I" } : Jvm.MethodName)) ∈ lw_all := lw_g (lw_at lw_m6 155 rfl) rfl
theorem q1431 : (Jvm.Cond.static ({ cls := "PloughWillsLaw", name := "clauseOf", desc := "(LPloughWills;II[J)I" } : Jvm.MethodName)) ∈ lw_all := lw_g (lw_at lw_m6 156 rfl) rfl
theorem q1432 : (Jvm.Cond.codeWith ({ cls := "PloughWillsLaw", name := "clauseOf", desc := "(LPloughWills;II[J)I" } : Jvm.MethodName) method_14_code (5 : Nat) (Option.some Jvm.ClassFile.FieldType.int) [((0 : Nat), (10 : Nat), (13 : Nat), (20 : Nat)), ((0 : Nat), (10 : Nat), (17 : Nat), (13 : Nat))]) ∈ lw_all := lw_g (lw_at lw_m6 157 rfl) rfl
theorem q1433 : (Jvm.Cond.methodLink "PloughWillsLaw" (55 : Nat) ({ cls := "PloughWills", name := "clauseOf", desc := "(II)I" } : Jvm.MethodName)) ∈ lw_all := lw_g (lw_at lw_m6 158 rfl) rfl
theorem q1437 : (Jvm.Cond.methodLink "PloughWillsLaw" (167 : Nat) ({ cls := "PloughWillsLaw", name := "wrong", desc := "(LPloughWills;I[J)I" } : Jvm.MethodName)) ∈ lw_all := lw_g (lw_at lw_m6 162 rfl) rfl
theorem q1438 : (Jvm.Cond.static ({ cls := "PloughWillsLaw", name := "wrong", desc := "(LPloughWills;I[J)I" } : Jvm.MethodName)) ∈ lw_all := lw_g (lw_at lw_m6 163 rfl) rfl
theorem q1439 : (Jvm.Cond.codeWith ({ cls := "PloughWillsLaw", name := "wrong", desc := "(LPloughWills;I[J)I" } : Jvm.MethodName) method_15_code (4 : Nat) (Option.some Jvm.ClassFile.FieldType.int) [((0 : Nat), (9 : Nat), (12 : Nat), (13 : Nat))]) ∈ lw_all := lw_g (lw_at lw_m6 164 rfl) rfl
theorem q1440 : (Jvm.Cond.methodLink "PloughWillsLaw" (58 : Nat) ({ cls := "PloughWills", name := "wrong", desc := "(I)I" } : Jvm.MethodName)) ∈ lw_all := lw_g (lw_at lw_m6 165 rfl) rfl
theorem q1444 : (Jvm.Cond.methodLink "PloughWillsLaw" (175 : Nat) ({ cls := "PloughWillsLaw", name := "goodAt", desc := "(LPloughWills;II[J)I" } : Jvm.MethodName)) ∈ lw_all := lw_g (lw_at lw_m6 169 rfl) rfl
theorem q1445 : (Jvm.Cond.static ({ cls := "PloughWillsLaw", name := "goodAt", desc := "(LPloughWills;II[J)I" } : Jvm.MethodName)) ∈ lw_all := lw_g (lw_at lw_m6 170 rfl) rfl
theorem q1446 : (Jvm.Cond.codeWith ({ cls := "PloughWillsLaw", name := "goodAt", desc := "(LPloughWills;II[J)I" } : Jvm.MethodName) method_16_code (5 : Nat) (Option.some Jvm.ClassFile.FieldType.int) [((0 : Nat), (10 : Nat), (13 : Nat), (20 : Nat)), ((0 : Nat), (10 : Nat), (17 : Nat), (35 : Nat))]) ∈ lw_all := lw_g (lw_at lw_m6 171 rfl) rfl
theorem q1447 : (Jvm.Cond.methodLink "PloughWillsLaw" (61 : Nat) ({ cls := "PloughWills", name := "goodAt", desc := "(II)I" } : Jvm.MethodName)) ∈ lw_all := lw_g (lw_at lw_m6 172 rfl) rfl
theorem q1451 : (Jvm.Cond.methodLink "PloughWillsLaw" (178 : Nat) ({ cls := "PloughWillsLaw", name := "ploughAt", desc := "(LPloughWills;II[J)I" } : Jvm.MethodName)) ∈ lw_all := lw_g (lw_at lw_m6 176 rfl) rfl
theorem q1452 : (Jvm.Cond.static ({ cls := "PloughWillsLaw", name := "ploughAt", desc := "(LPloughWills;II[J)I" } : Jvm.MethodName)) ∈ lw_all := lw_g (lw_at lw_m6 177 rfl) rfl
theorem q1453 : (Jvm.Cond.codeWith ({ cls := "PloughWillsLaw", name := "ploughAt", desc := "(LPloughWills;II[J)I" } : Jvm.MethodName) method_17_code (5 : Nat) (Option.some Jvm.ClassFile.FieldType.int) [((0 : Nat), (10 : Nat), (13 : Nat), (20 : Nat)), ((0 : Nat), (10 : Nat), (17 : Nat), (35 : Nat))]) ∈ lw_all := lw_g (lw_at lw_m6 178 rfl) rfl
theorem q1454 : (Jvm.Cond.methodLink "PloughWillsLaw" (64 : Nat) ({ cls := "PloughWills", name := "ploughAt", desc := "(II)I" } : Jvm.MethodName)) ∈ lw_all := lw_g (lw_at lw_m6 179 rfl) rfl
theorem q1458 : (Jvm.Cond.methodLink "PloughWillsLaw" (185 : Nat) ({ cls := "PloughWillsLaw", name := "pathOf", desc := "(LPloughWills;II[J)I" } : Jvm.MethodName)) ∈ lw_all := lw_g (lw_at lw_m6 183 rfl) rfl
theorem q1459 : (Jvm.Cond.static ({ cls := "PloughWillsLaw", name := "pathOf", desc := "(LPloughWills;II[J)I" } : Jvm.MethodName)) ∈ lw_all := lw_g (lw_at lw_m6 184 rfl) rfl
theorem q1460 : (Jvm.Cond.codeWith ({ cls := "PloughWillsLaw", name := "pathOf", desc := "(LPloughWills;II[J)I" } : Jvm.MethodName) method_18_code (5 : Nat) (Option.some Jvm.ClassFile.FieldType.int) [((0 : Nat), (10 : Nat), (13 : Nat), (35 : Nat)), ((0 : Nat), (10 : Nat), (17 : Nat), (13 : Nat))]) ∈ lw_all := lw_g (lw_at lw_m6 185 rfl) rfl
theorem q1461 : (Jvm.Cond.methodLink "PloughWillsLaw" (67 : Nat) ({ cls := "PloughWills", name := "pathOf", desc := "(II)I" } : Jvm.MethodName)) ∈ lw_all := lw_g (lw_at lw_m6 186 rfl) rfl
theorem q1469 : (Jvm.Cond.methodLink "PloughWillsLaw" (188 : Nat) ({ cls := "PloughWillsLaw", name := "goesBy", desc := "(LPloughWills;II[J)I" } : Jvm.MethodName)) ∈ lw_all := lw_g (lw_at lw_m6 194 rfl) rfl
theorem q1470 : (Jvm.Cond.static ({ cls := "PloughWillsLaw", name := "goesBy", desc := "(LPloughWills;II[J)I" } : Jvm.MethodName)) ∈ lw_all := lw_g (lw_at lw_m6 195 rfl) rfl
theorem q1471 : (Jvm.Cond.codeWith ({ cls := "PloughWillsLaw", name := "goesBy", desc := "(LPloughWills;II[J)I" } : Jvm.MethodName) method_19_code (5 : Nat) (Option.some Jvm.ClassFile.FieldType.int) [((0 : Nat), (17 : Nat), (20 : Nat), (35 : Nat)), ((0 : Nat), (17 : Nat), (24 : Nat), (20 : Nat))]) ∈ lw_all := lw_g (lw_at lw_m6 196 rfl) rfl
theorem q1472 : (Jvm.Cond.methodLink "PloughWillsLaw" (70 : Nat) ({ cls := "PloughWills", name := "goesBy", desc := "(II)Z" } : Jvm.MethodName)) ∈ lw_all := lw_g (lw_at lw_m6 197 rfl) rfl
theorem q1476 : (Jvm.Cond.methodLink "PloughWillsLaw" (191 : Nat) ({ cls := "PloughWillsLaw", name := "worth", desc := "(LPloughWills;ZZ[J)I" } : Jvm.MethodName)) ∈ lw_all := lw_g (lw_at lw_m6 201 rfl) rfl
theorem q1477 : (Jvm.Cond.static ({ cls := "PloughWillsLaw", name := "worth", desc := "(LPloughWills;ZZ[J)I" } : Jvm.MethodName)) ∈ lw_all := lw_g (lw_at lw_m6 202 rfl) rfl
theorem q1478 : (Jvm.Cond.codeWith ({ cls := "PloughWillsLaw", name := "worth", desc := "(LPloughWills;ZZ[J)I" } : Jvm.MethodName) method_20_code (5 : Nat) (Option.some Jvm.ClassFile.FieldType.int) [((0 : Nat), (10 : Nat), (13 : Nat), (35 : Nat))]) ∈ lw_all := lw_g (lw_at lw_m6 203 rfl) rfl
theorem q1479 : (Jvm.Cond.methodLink "PloughWillsLaw" (74 : Nat) ({ cls := "PloughWills", name := "worth", desc := "(ZZ)I" } : Jvm.MethodName)) ∈ lw_all := lw_g (lw_at lw_m6 204 rfl) rfl
theorem q1483 : (Jvm.Cond.methodLink "PloughWillsLaw" (195 : Nat) ({ cls := "PloughWillsLaw", name := "tithes", desc := "(LPloughWills;I[D)I" } : Jvm.MethodName)) ∈ lw_all := lw_g (lw_at lw_m6 208 rfl) rfl
theorem q1484 : (Jvm.Cond.static ({ cls := "PloughWillsLaw", name := "tithes", desc := "(LPloughWills;I[D)I" } : Jvm.MethodName)) ∈ lw_all := lw_g (lw_at lw_m6 209 rfl) rfl
theorem q1485 : (Jvm.Cond.codeWith ({ cls := "PloughWillsLaw", name := "tithes", desc := "(LPloughWills;I[D)I" } : Jvm.MethodName) method_21_code (4 : Nat) (Option.some Jvm.ClassFile.FieldType.int) [((0 : Nat), (9 : Nat), (12 : Nat), (35 : Nat))]) ∈ lw_all := lw_g (lw_at lw_m6 210 rfl) rfl
theorem q1486 : (Jvm.Cond.methodLink "PloughWillsLaw" (78 : Nat) ({ cls := "PloughWills", name := "tithes", desc := "(I)F" } : Jvm.MethodName)) ∈ lw_all := lw_g (lw_at lw_m6 211 rfl) rfl
theorem q1499 : (Jvm.Cond.methodLink "PloughWillsLaw" (198 : Nat) ({ cls := "PloughWillsLaw", name := "richest", desc := "(LPloughWills;[J)I" } : Jvm.MethodName)) ∈ lw_all := lw_g (lw_at lw_m6 224 rfl) rfl
theorem q1500 : (Jvm.Cond.static ({ cls := "PloughWillsLaw", name := "richest", desc := "(LPloughWills;[J)I" } : Jvm.MethodName)) ∈ lw_all := lw_g (lw_at lw_m6 225 rfl) rfl
theorem q1501 : (Jvm.Cond.codeWith ({ cls := "PloughWillsLaw", name := "richest", desc := "(LPloughWills;[J)I" } : Jvm.MethodName) method_22_code (3 : Nat) (Option.some Jvm.ClassFile.FieldType.int) [((0 : Nat), (8 : Nat), (11 : Nat), (35 : Nat))]) ∈ lw_all := lw_g (lw_at lw_m6 226 rfl) rfl
theorem q1502 : (Jvm.Cond.methodLink "PloughWillsLaw" (81 : Nat) ({ cls := "PloughWills", name := "richest", desc := "()I" } : Jvm.MethodName)) ∈ lw_all := lw_g (lw_at lw_m6 227 rfl) rfl
theorem q1513 : (Jvm.Cond.methodLink "PloughWillsLaw" (206 : Nat) ({ cls := "PloughWillsLaw", name := "character", desc := "(LPloughWills;I[J)I" } : Jvm.MethodName)) ∈ lw_all := lw_g (lw_at lw_m6 238 rfl) rfl
theorem q1514 : (Jvm.Cond.static ({ cls := "PloughWillsLaw", name := "character", desc := "(LPloughWills;I[J)I" } : Jvm.MethodName)) ∈ lw_all := lw_g (lw_at lw_m6 239 rfl) rfl
theorem q1515 : (Jvm.Cond.codeWith ({ cls := "PloughWillsLaw", name := "character", desc := "(LPloughWills;I[J)I" } : Jvm.MethodName) method_23_code (4 : Nat) (Option.some Jvm.ClassFile.FieldType.int) [((0 : Nat), (9 : Nat), (12 : Nat), (20 : Nat))]) ∈ lw_all := lw_g (lw_at lw_m7 0 rfl) rfl
theorem q1516 : (Jvm.Cond.methodLink "PloughWillsLaw" (85 : Nat) ({ cls := "PloughWills", name := "character", desc := "(I)C" } : Jvm.MethodName)) ∈ lw_all := lw_g (lw_at lw_m7 1 rfl) rfl
theorem q1530 : (Jvm.Cond.methodLink "PloughWillsLaw" (209 : Nat) ({ cls := "PloughWillsLaw", name := "append", desc := "(LPloughWills;C[J)I" } : Jvm.MethodName)) ∈ lw_all := lw_g (lw_at lw_m7 15 rfl) rfl
theorem q1531 : (Jvm.Cond.static ({ cls := "PloughWillsLaw", name := "append", desc := "(LPloughWills;C[J)I" } : Jvm.MethodName)) ∈ lw_all := lw_g (lw_at lw_m7 16 rfl) rfl
theorem q1532 : (Jvm.Cond.codeWith ({ cls := "PloughWillsLaw", name := "append", desc := "(LPloughWills;C[J)I" } : Jvm.MethodName) method_24_code (4 : Nat) (Option.some Jvm.ClassFile.FieldType.int) [((0 : Nat), (9 : Nat), (12 : Nat), (93 : Nat))]) ∈ lw_all := lw_g (lw_at lw_m7 17 rfl) rfl
theorem q1533 : (Jvm.Cond.classLink "PloughWillsLaw" (93 : Nat) "java/lang/IllegalStateException") ∈ lw_all := lw_g (lw_at lw_m7 18 rfl) rfl
theorem q1534 : (Jvm.Cond.methodLink "PloughWillsLaw" (89 : Nat) ({ cls := "PloughWills", name := "append", desc := "(C)I" } : Jvm.MethodName)) ∈ lw_all := lw_g (lw_at lw_m7 19 rfl) rfl
theorem q1547 : (Jvm.Cond.methodLink "PloughWillsLaw" (213 : Nat) ({ cls := "PloughWillsLaw", name := "read", desc := "(LPloughWills;[J)I" } : Jvm.MethodName)) ∈ lw_all := lw_g (lw_at lw_m7 32 rfl) rfl
theorem q1548 : (Jvm.Cond.static ({ cls := "PloughWillsLaw", name := "read", desc := "(LPloughWills;[J)I" } : Jvm.MethodName)) ∈ lw_all := lw_g (lw_at lw_m7 33 rfl) rfl
theorem q1549 : (Jvm.Cond.codeWith ({ cls := "PloughWillsLaw", name := "read", desc := "(LPloughWills;[J)I" } : Jvm.MethodName) method_25_code (3 : Nat) (Option.some Jvm.ClassFile.FieldType.int) [((0 : Nat), (8 : Nat), (11 : Nat), (13 : Nat)), ((0 : Nat), (8 : Nat), (14 : Nat), (15 : Nat))]) ∈ lw_all := lw_g (lw_at lw_m7 34 rfl) rfl
theorem q1550 : (Jvm.Cond.methodLink "PloughWillsLaw" (95 : Nat) ({ cls := "PloughWills", name := "read", desc := "()I" } : Jvm.MethodName)) ∈ lw_all := lw_g (lw_at lw_m7 35 rfl) rfl
theorem q1640 : (Jvm.Cond.methodLink "PloughWillsLaw" (220 : Nat) ({ cls := "PloughWillsLaw", name := "refusal", desc := "(LPloughWills;Z[J)I" } : Jvm.MethodName)) ∈ lw_all := lw_g (lw_at lw_m7 125 rfl) rfl
theorem q1641 : (Jvm.Cond.static ({ cls := "PloughWillsLaw", name := "refusal", desc := "(LPloughWills;Z[J)I" } : Jvm.MethodName)) ∈ lw_all := lw_g (lw_at lw_m7 126 rfl) rfl
theorem q1642 : (Jvm.Cond.codeWith ({ cls := "PloughWillsLaw", name := "refusal", desc := "(LPloughWills;Z[J)I" } : Jvm.MethodName) method_26_code (4 : Nat) (Option.some Jvm.ClassFile.FieldType.int) [((0 : Nat), (9 : Nat), (12 : Nat), (35 : Nat))]) ∈ lw_all := lw_g (lw_at lw_m7 127 rfl) rfl
theorem q1643 : (Jvm.Cond.methodLink "PloughWillsLaw" (98 : Nat) ({ cls := "PloughWills", name := "refusal", desc := "(Z)I" } : Jvm.MethodName)) ∈ lw_all := lw_g (lw_at lw_m7 128 rfl) rfl
theorem q1647 : (Jvm.Cond.methodLink "PloughWillsLaw" (224 : Nat) ({ cls := "PloughWillsLaw", name := "account", desc := "(LPloughWills;I[J)I" } : Jvm.MethodName)) ∈ lw_all := lw_g (lw_at lw_m7 132 rfl) rfl
theorem q1648 : (Jvm.Cond.static ({ cls := "PloughWillsLaw", name := "account", desc := "(LPloughWills;I[J)I" } : Jvm.MethodName)) ∈ lw_all := lw_g (lw_at lw_m7 133 rfl) rfl
theorem q1649 : (Jvm.Cond.codeWith ({ cls := "PloughWillsLaw", name := "account", desc := "(LPloughWills;I[J)I" } : Jvm.MethodName) method_27_code (4 : Nat) (Option.some Jvm.ClassFile.FieldType.int) [((0 : Nat), (9 : Nat), (12 : Nat), (13 : Nat))]) ∈ lw_all := lw_g (lw_at lw_m7 134 rfl) rfl
theorem q1650 : (Jvm.Cond.methodLink "PloughWillsLaw" (102 : Nat) ({ cls := "PloughWills", name := "account", desc := "(I)I" } : Jvm.MethodName)) ∈ lw_all := lw_g (lw_at lw_m7 135 rfl) rfl
theorem q1669 : (Jvm.Cond.methodLink "PloughWillsLaw" (232 : Nat) ({ cls := "PloughWillsLaw", name := "meanWorth", desc := "(LPloughWills;[D)I" } : Jvm.MethodName)) ∈ lw_all := lw_g (lw_at lw_m7 154 rfl) rfl
theorem q1670 : (Jvm.Cond.static ({ cls := "PloughWillsLaw", name := "meanWorth", desc := "(LPloughWills;[D)I" } : Jvm.MethodName)) ∈ lw_all := lw_g (lw_at lw_m7 155 rfl) rfl
theorem q1671 : (Jvm.Cond.codeWith ({ cls := "PloughWillsLaw", name := "meanWorth", desc := "(LPloughWills;[D)I" } : Jvm.MethodName) method_28_code (3 : Nat) (Option.some Jvm.ClassFile.FieldType.int) [((0 : Nat), (7 : Nat), (10 : Nat), (109 : Nat))]) ∈ lw_all := lw_g (lw_at lw_m7 156 rfl) rfl
theorem q1672 : (Jvm.Cond.classLink "PloughWillsLaw" (109 : Nat) "java/lang/ArithmeticException") ∈ lw_all := lw_g (lw_at lw_m7 157 rfl) rfl
theorem q1686 : (Jvm.Cond.methodLink "PloughWillsLaw" (105 : Nat) ({ cls := "PloughWills", name := "meanWorth", desc := "()D" } : Jvm.MethodName)) ∈ lw_all := lw_g (lw_at lw_m7 171 rfl) rfl
theorem q1698 : (Jvm.Cond.methodLink "PloughWillsLaw" (236 : Nat) ({ cls := "PloughWillsLaw", name := "undo", desc := "(LPloughWills;[J)I" } : Jvm.MethodName)) ∈ lw_all := lw_g (lw_at lw_m7 183 rfl) rfl
theorem q1699 : (Jvm.Cond.static ({ cls := "PloughWillsLaw", name := "undo", desc := "(LPloughWills;[J)I" } : Jvm.MethodName)) ∈ lw_all := lw_g (lw_at lw_m7 184 rfl) rfl
theorem q1700 : (Jvm.Cond.codeWith ({ cls := "PloughWillsLaw", name := "undo", desc := "(LPloughWills;[J)I" } : Jvm.MethodName) method_29_code (3 : Nat) (Option.some Jvm.ClassFile.FieldType.int) [((0 : Nat), (8 : Nat), (11 : Nat), (93 : Nat))]) ∈ lw_all := lw_g (lw_at lw_m7 185 rfl) rfl
theorem q1701 : (Jvm.Cond.methodLink "PloughWillsLaw" (111 : Nat) ({ cls := "PloughWills", name := "undo", desc := "()I" } : Jvm.MethodName)) ∈ lw_all := lw_g (lw_at lw_m7 186 rfl) rfl
theorem q1712 : (Jvm.Cond.methodLink "PloughWillsLaw" (243 : Nat) ({ cls := "PloughWillsLaw", name := "restore", desc := "(LPloughWills;[J)I" } : Jvm.MethodName)) ∈ lw_all := lw_g (lw_at lw_m7 197 rfl) rfl
theorem q1713 : (Jvm.Cond.static ({ cls := "PloughWillsLaw", name := "restore", desc := "(LPloughWills;[J)I" } : Jvm.MethodName)) ∈ lw_all := lw_g (lw_at lw_m7 198 rfl) rfl
theorem q1714 : (Jvm.Cond.codeWith ({ cls := "PloughWillsLaw", name := "restore", desc := "(LPloughWills;[J)I" } : Jvm.MethodName) method_30_code (3 : Nat) (Option.some Jvm.ClassFile.FieldType.int) [((0 : Nat), (8 : Nat), (11 : Nat), (93 : Nat))]) ∈ lw_all := lw_g (lw_at lw_m7 199 rfl) rfl
theorem q1715 : (Jvm.Cond.methodLink "PloughWillsLaw" (114 : Nat) ({ cls := "PloughWills", name := "restore", desc := "()I" } : Jvm.MethodName)) ∈ lw_all := lw_g (lw_at lw_m7 200 rfl) rfl
theorem q1719 : (Jvm.Cond.classLink "PloughWillsLaw" (118 : Nat) "PloughWillsModel") ∈ lw_all := lw_g (lw_at lw_m7 204 rfl) rfl
theorem q1721 : (Jvm.Cond.methodLink "PloughWillsLaw" (120 : Nat) ({ cls := "PloughWillsModel", name := "<init>", desc := "()V" } : Jvm.MethodName)) ∈ lw_all := lw_g (lw_at lw_m7 206 rfl) rfl
theorem q1820 : (Jvm.Cond.methodLink "PloughWillsLaw" (127 : Nat) ({ cls := "PloughWillsModel", name := "thrown", desc := "()I" } : Jvm.MethodName)) ∈ lw_all := lw_g (lw_at lw_m8 65 rfl) rfl
theorem q1824 : (Jvm.Cond.methodLink "PloughWillsLaw" (223 : Nat) ({ cls := "PloughWillsModel", name := "refusal", desc := "(Z)I" } : Jvm.MethodName)) ∈ lw_all := lw_g (lw_at lw_m8 69 rfl) rfl
theorem q1828 : (Jvm.Cond.methodLink "PloughWillsLaw" (126 : Nat) ({ cls := "PloughWillsModel", name := "good", desc := "(II)I" } : Jvm.MethodName)) ∈ lw_all := lw_g (lw_at lw_m8 73 rfl) rfl
theorem q1852 : (Jvm.Cond.methodLink "PloughWillsLaw" (132 : Nat) ({ cls := "PloughWillsModel", name := "put", desc := "(II)I" } : Jvm.MethodName)) ∈ lw_all := lw_g (lw_at lw_m8 97 rfl) rfl
theorem q1867 : (Jvm.Cond.methodLink "PloughWillsLaw" (136 : Nat) ({ cls := "PloughWillsModel", name := "takeOut", desc := "(I)I" } : Jvm.MethodName)) ∈ lw_all := lw_g (lw_at lw_m8 112 rfl) rfl
theorem q1871 : (Jvm.Cond.methodLink "PloughWillsLaw" (139 : Nat) ({ cls := "PloughWillsModel", name := "rate", desc := "(II)I" } : Jvm.MethodName)) ∈ lw_all := lw_g (lw_at lw_m8 116 rfl) rfl
theorem q1875 : (Jvm.Cond.methodLink "PloughWillsLaw" (142 : Nat) ({ cls := "PloughWillsModel", name := "goodOf", desc := "(II)I" } : Jvm.MethodName)) ∈ lw_all := lw_g (lw_at lw_m8 120 rfl) rfl
theorem q1895 : (Jvm.Cond.methodLink "PloughWillsLaw" (145 : Nat) ({ cls := "PloughWillsModel", name := "chestAt", desc := "(II)I" } : Jvm.MethodName)) ∈ lw_all := lw_g (lw_at lw_m8 140 rfl) rfl
theorem q1899 : (Jvm.Cond.methodLink "PloughWillsLaw" (149 : Nat) ({ cls := "PloughWillsModel", name := "tithe", desc := "(I)F" } : Jvm.MethodName)) ∈ lw_all := lw_g (lw_at lw_m8 144 rfl) rfl
theorem q1912 : (Jvm.Cond.methodLink "PloughWillsLaw" (152 : Nat) ({ cls := "PloughWillsModel", name := "rateBits", desc := "(I)I" } : Jvm.MethodName)) ∈ lw_all := lw_g (lw_at lw_m8 157 rfl) rfl
theorem q1917 : (Jvm.Cond.methodLink "PloughWillsLaw" (156 : Nat) ({ cls := "PloughWillsModel", name := "add", desc := "(III)I" } : Jvm.MethodName)) ∈ lw_all := lw_g (lw_at lw_m8 162 rfl) rfl
theorem q1942 : (Jvm.Cond.methodLink "PloughWillsLaw" (160 : Nat) ({ cls := "PloughWillsModel", name := "insert", desc := "(IIII)I" } : Jvm.MethodName)) ∈ lw_all := lw_g (lw_at lw_m8 187 rfl) rfl
theorem q1946 : (Jvm.Cond.methodLink "PloughWillsLaw" (163 : Nat) ({ cls := "PloughWillsModel", name := "remove", desc := "(I)I" } : Jvm.MethodName)) ∈ lw_all := lw_g (lw_at lw_m8 191 rfl) rfl
theorem q1954 : (Jvm.Cond.methodLink "PloughWillsLaw" (166 : Nat) ({ cls := "PloughWillsModel", name := "clauseOf", desc := "(II)I" } : Jvm.MethodName)) ∈ lw_all := lw_g (lw_at lw_m8 199 rfl) rfl
theorem q1963 : (Jvm.Cond.methodLink "PloughWillsLaw" (169 : Nat) ({ cls := "PloughWillsModel", name := "wrong", desc := "(I)I" } : Jvm.MethodName)) ∈ lw_all := lw_g (lw_at lw_m8 208 rfl) rfl
theorem q2023 : (Jvm.Cond.methodLink "PloughWillsLaw" (174 : Nat) ({ cls := "PloughWillsModel", name := "isSound", desc := "(Z)Z" } : Jvm.MethodName)) ∈ lw_all := lw_g (lw_at lw_m9 28 rfl) rfl
theorem q2027 : (Jvm.Cond.methodLink "PloughWillsLaw" (177 : Nat) ({ cls := "PloughWillsModel", name := "goodAt", desc := "(II)I" } : Jvm.MethodName)) ∈ lw_all := lw_g (lw_at lw_m9 32 rfl) rfl
theorem q2031 : (Jvm.Cond.methodLink "PloughWillsLaw" (180 : Nat) ({ cls := "PloughWillsModel", name := "ploughAt", desc := "(II)I" } : Jvm.MethodName)) ∈ lw_all := lw_g (lw_at lw_m9 36 rfl) rfl
theorem q2035 : (Jvm.Cond.methodLink "PloughWillsLaw" (184 : Nat) ({ cls := "PloughWillsModel", name := "paths", desc := "()I" } : Jvm.MethodName)) ∈ lw_all := lw_g (lw_at lw_m9 40 rfl) rfl
theorem q2047 : (Jvm.Cond.methodLink "PloughWillsLaw" (187 : Nat) ({ cls := "PloughWillsModel", name := "pathOf", desc := "(II)I" } : Jvm.MethodName)) ∈ lw_all := lw_g (lw_at lw_m9 52 rfl) rfl
theorem q2067 : (Jvm.Cond.methodLink "PloughWillsLaw" (190 : Nat) ({ cls := "PloughWillsModel", name := "goesBy", desc := "(II)Z" } : Jvm.MethodName)) ∈ lw_all := lw_g (lw_at lw_m9 72 rfl) rfl
theorem q2071 : (Jvm.Cond.methodLink "PloughWillsLaw" (194 : Nat) ({ cls := "PloughWillsModel", name := "worth", desc := "(ZZ)I" } : Jvm.MethodName)) ∈ lw_all := lw_g (lw_at lw_m9 76 rfl) rfl
theorem q2076 : (Jvm.Cond.methodLink "PloughWillsLaw" (197 : Nat) ({ cls := "PloughWillsModel", name := "tithes", desc := "(I)F" } : Jvm.MethodName)) ∈ lw_all := lw_g (lw_at lw_m9 81 rfl) rfl
theorem q2084 : (Jvm.Cond.methodLink "PloughWillsLaw" (201 : Nat) ({ cls := "PloughWillsModel", name := "richest", desc := "()I" } : Jvm.MethodName)) ∈ lw_all := lw_g (lw_at lw_m9 89 rfl) rfl
theorem q2088 : (Jvm.Cond.methodLink "PloughWillsLaw" (205 : Nat) ({ cls := "PloughWillsModel", name := "line", desc := "()I" } : Jvm.MethodName)) ∈ lw_all := lw_g (lw_at lw_m9 93 rfl) rfl
theorem q2098 : (Jvm.Cond.methodLink "PloughWillsLaw" (208 : Nat) ({ cls := "PloughWillsModel", name := "character", desc := "(I)C" } : Jvm.MethodName)) ∈ lw_all := lw_g (lw_at lw_m9 103 rfl) rfl
theorem q2102 : (Jvm.Cond.methodLink "PloughWillsLaw" (212 : Nat) ({ cls := "PloughWillsModel", name := "append", desc := "(C)I" } : Jvm.MethodName)) ∈ lw_all := lw_g (lw_at lw_m9 107 rfl) rfl
theorem q2106 : (Jvm.Cond.methodLink "PloughWillsLaw" (215 : Nat) ({ cls := "PloughWillsModel", name := "read", desc := "()I" } : Jvm.MethodName)) ∈ lw_all := lw_g (lw_at lw_m9 111 rfl) rfl
theorem q2117 : (Jvm.Cond.methodLink "PloughWillsLaw" (219 : Nat) ({ cls := "PloughWillsModel", name := "errorPosition", desc := "()I" } : Jvm.MethodName)) ∈ lw_all := lw_g (lw_at lw_m9 122 rfl) rfl
theorem q2121 : (Jvm.Cond.methodLink "PloughWillsLaw" (226 : Nat) ({ cls := "PloughWillsModel", name := "account", desc := "(I)I" } : Jvm.MethodName)) ∈ lw_all := lw_g (lw_at lw_m9 126 rfl) rfl
theorem q2133 : (Jvm.Cond.methodLink "PloughWillsLaw" (231 : Nat) ({ cls := "PloughWillsModel", name := "isWell", desc := "()Z" } : Jvm.MethodName)) ∈ lw_all := lw_g (lw_at lw_m9 138 rfl) rfl
theorem q2137 : (Jvm.Cond.methodLink "PloughWillsLaw" (235 : Nat) ({ cls := "PloughWillsModel", name := "meanWorth", desc := "()D" } : Jvm.MethodName)) ∈ lw_all := lw_g (lw_at lw_m9 142 rfl) rfl
theorem q2141 : (Jvm.Cond.methodLink "PloughWillsLaw" (238 : Nat) ({ cls := "PloughWillsModel", name := "undo", desc := "()I" } : Jvm.MethodName)) ∈ lw_all := lw_g (lw_at lw_m9 146 rfl) rfl
theorem q2145 : (Jvm.Cond.methodLink "PloughWillsLaw" (242 : Nat) ({ cls := "PloughWillsModel", name := "save", desc := "()I" } : Jvm.MethodName)) ∈ lw_all := lw_g (lw_at lw_m9 150 rfl) rfl
theorem q2149 : (Jvm.Cond.methodLink "PloughWillsLaw" (245 : Nat) ({ cls := "PloughWillsModel", name := "restore", desc := "()I" } : Jvm.MethodName)) ∈ lw_all := lw_g (lw_at lw_m9 154 rfl) rfl
/-! the law's own entry -/
set_option maxRecDepth 100000
abbrev cL_law : ByteArray := code
def dkwL_law_85 : List UInt8 := [21, 7, 133, 148, 153, 0, 5, 3, 172, 167, 0, 3, 132, 5, 5, 167, 247, 205, 4, 172]
abbrev dktL_law_85 : List UInt8 := dkwL_law_85 ++ []
def dkwL_law_84 : List UInt8 := [182, 0, 245, 54, 7, 44, 182, 0, 127, 21, 6, 159, 0, 5, 3, 172, 21, 6, 154, 0, 15, 45, 3, 47]
abbrev dktL_law_84 : List UInt8 := dkwL_law_84 ++ dktL_law_85
def dkwL_law_83 : List UInt8 := [167, 0, 60, 43, 182, 0, 239, 44, 182, 0, 242, 159, 0, 49, 3, 172, 43, 45, 184, 0, 243, 54, 6, 44]
abbrev dktL_law_83 : List UInt8 := dkwL_law_83 ++ dktL_law_84
def dkwL_law_82 : List UInt8 := [159, 0, 5, 3, 172, 21, 6, 154, 0, 15, 45, 3, 47, 21, 7, 133, 148, 153, 0, 5, 3, 172]
abbrev dktL_law_82 : List UInt8 := dkwL_law_82 ++ dktL_law_83
def dkwL_law_81 : List UInt8 := [172, 167, 0, 104, 43, 45, 184, 0, 236, 54, 6, 44, 182, 0, 238, 54, 7, 44, 182, 0, 127, 21, 6]
abbrev dktL_law_81 : List UInt8 := dkwL_law_81 ++ dktL_law_82
def dkwL_law_80 : List UInt8 := [153, 0, 25, 25, 4, 3, 49, 25, 4, 3, 49, 151, 153, 0, 11, 24, 7, 24, 7, 151, 154, 0, 5, 3]
abbrev dktL_law_80 : List UInt8 := dkwL_law_80 ++ dktL_law_81
def dkwL_law_79 : List UInt8 := [182, 0, 127, 21, 6, 159, 0, 5, 3, 172, 21, 6, 154, 0, 35, 25, 4, 3, 49, 24, 7, 151]
abbrev dktL_law_79 : List UInt8 := dkwL_law_79 ++ dktL_law_80
def dkwL_law_78 : List UInt8 := [182, 0, 231, 159, 0, 171, 3, 172, 43, 25, 4, 184, 0, 232, 54, 6, 44, 182, 0, 235, 57, 7, 44]
abbrev dktL_law_78 : List UInt8 := dkwL_law_78 ++ dktL_law_79
def dkwL_law_77 : List UInt8 := [154, 0, 15, 45, 3, 47, 21, 7, 133, 148, 153, 0, 5, 3, 172, 167, 0, 182, 43, 182, 0, 227, 44]
abbrev dktL_law_77 : List UInt8 := dkwL_law_77 ++ dktL_law_78
def dkwL_law_76 : List UInt8 := [21, 5, 4, 96, 46, 182, 0, 226, 54, 7, 44, 182, 0, 127, 21, 6, 159, 0, 5, 3, 172, 21, 6]
abbrev dktL_law_76 : List UInt8 := dkwL_law_76 ++ dktL_law_77
def dkwL_law_75 : List UInt8 := [153, 0, 5, 3, 172, 167, 0, 238, 43, 42, 21, 5, 4, 96, 46, 45, 184, 0, 224, 54, 6, 44, 42]
abbrev dktL_law_75 : List UInt8 := dkwL_law_75 ++ dktL_law_76
def dkwL_law_74 : List UInt8 := [182, 0, 127, 21, 6, 159, 0, 5, 3, 172, 21, 6, 154, 0, 15, 45, 3, 47, 21, 7, 133, 148]
abbrev dktL_law_74 : List UInt8 := dkwL_law_74 ++ dktL_law_75
def dkwL_law_73 : List UInt8 := [54, 6, 44, 42, 21, 5, 4, 96, 46, 153, 0, 7, 4, 167, 0, 4, 3, 182, 0, 223, 54, 7, 44]
abbrev dktL_law_73 : List UInt8 := dkwL_law_73 ++ dktL_law_74
def dkwL_law_72 : List UInt8 := [159, 1, 56, 3, 172, 43, 42, 21, 5, 4, 96, 46, 153, 0, 7, 4, 167, 0, 4, 3, 45, 184, 0, 220]
abbrev dktL_law_72 : List UInt8 := dkwL_law_72 ++ dktL_law_73
def dkwL_law_71 : List UInt8 := [45, 3, 47, 21, 7, 133, 148, 153, 0, 5, 3, 172, 167, 1, 67, 43, 182, 0, 216, 44, 182, 0, 219]
abbrev dktL_law_71 : List UInt8 := dkwL_law_71 ++ dktL_law_72
def dkwL_law_70 : List UInt8 := [54, 6, 44, 182, 0, 215, 54, 7, 44, 182, 0, 127, 21, 6, 159, 0, 5, 3, 172, 21, 6, 154, 0, 15]
abbrev dktL_law_70 : List UInt8 := dkwL_law_70 ++ dktL_law_71
def dkwL_law_69 : List UInt8 := [154, 0, 15, 45, 3, 47, 21, 7, 133, 148, 153, 0, 5, 3, 172, 167, 1, 111, 43, 45, 184, 0, 213]
abbrev dktL_law_69 : List UInt8 := dkwL_law_69 ++ dktL_law_70
def dkwL_law_68 : List UInt8 := [21, 5, 4, 96, 46, 146, 182, 0, 212, 54, 7, 44, 182, 0, 127, 21, 6, 159, 0, 5, 3, 172, 21, 6]
abbrev dktL_law_68 : List UInt8 := dkwL_law_68 ++ dktL_law_69
def dkwL_law_67 : List UInt8 := [153, 0, 5, 3, 172, 167, 1, 169, 43, 42, 21, 5, 4, 96, 46, 146, 45, 184, 0, 209, 54, 6, 44, 42]
abbrev dktL_law_67 : List UInt8 := dkwL_law_67 ++ dktL_law_68
def dkwL_law_66 : List UInt8 := [182, 0, 127, 21, 6, 159, 0, 5, 3, 172, 21, 6, 154, 0, 15, 45, 3, 47, 21, 7, 133, 148]
abbrev dktL_law_66 : List UInt8 := dkwL_law_66 ++ dktL_law_67
def dkwL_law_65 : List UInt8 := [21, 5, 4, 96, 46, 45, 184, 0, 206, 54, 6, 44, 42, 21, 5, 4, 96, 46, 182, 0, 208, 54, 7, 44]
abbrev dktL_law_65 : List UInt8 := dkwL_law_65 ++ dktL_law_66
def dkwL_law_64 : List UInt8 := [153, 0, 5, 3, 172, 167, 1, 238, 43, 182, 0, 202, 44, 182, 0, 205, 159, 1, 227, 3, 172, 43, 42]
abbrev dktL_law_64 : List UInt8 := dkwL_law_64 ++ dktL_law_65
def dkwL_law_63 : List UInt8 := [182, 0, 127, 21, 6, 159, 0, 5, 3, 172, 21, 6, 154, 0, 15, 45, 3, 47, 21, 7, 133, 148]
abbrev dktL_law_63 : List UInt8 := dkwL_law_63 ++ dktL_law_64
def dkwL_law_62 : List UInt8 := [149, 154, 0, 5, 3, 172, 167, 2, 26, 43, 45, 184, 0, 198, 54, 6, 44, 182, 0, 201, 54, 7, 44]
abbrev dktL_law_62 : List UInt8 := dkwL_law_62 ++ dktL_law_63
def dkwL_law_61 : List UInt8 := [49, 23, 7, 141, 151, 153, 0, 25, 25, 4, 3, 49, 25, 4, 3, 49, 151, 153, 0, 11, 23, 7, 23, 7]
abbrev dktL_law_61 : List UInt8 := dkwL_law_61 ++ dktL_law_62
def dkwL_law_60 : List UInt8 := [182, 0, 197, 56, 7, 44, 182, 0, 127, 21, 6, 159, 0, 5, 3, 172, 21, 6, 154, 0, 36, 25, 4, 3]
abbrev dktL_law_60 : List UInt8 := dkwL_law_60 ++ dktL_law_61
def dkwL_law_59 : List UInt8 := [167, 2, 104, 43, 42, 21, 5, 4, 96, 46, 25, 4, 184, 0, 195, 54, 6, 44, 42, 21, 5, 4, 96, 46]
abbrev dktL_law_59 : List UInt8 := dkwL_law_59 ++ dktL_law_60
def dkwL_law_58 : List UInt8 := [21, 6, 159, 0, 5, 3, 172, 21, 6, 154, 0, 15, 45, 3, 47, 21, 7, 133, 148, 153, 0, 5, 3, 172]
abbrev dktL_law_58 : List UInt8 := dkwL_law_58 ++ dktL_law_59
def dkwL_law_57 : List UInt8 := [3, 42, 21, 5, 5, 96, 46, 153, 0, 7, 4, 167, 0, 4, 3, 182, 0, 194, 54, 7, 44, 182, 0, 127]
abbrev dktL_law_57 : List UInt8 := dkwL_law_57 ++ dktL_law_58
def dkwL_law_56 : List UInt8 := [167, 0, 4, 3, 45, 184, 0, 191, 54, 6, 44, 42, 21, 5, 4, 96, 46, 153, 0, 7, 4, 167, 0, 4]
abbrev dktL_law_56 : List UInt8 := dkwL_law_56 ++ dktL_law_57
def dkwL_law_55 : List UInt8 := [21, 5, 4, 96, 46, 153, 0, 7, 4, 167, 0, 4, 3, 42, 21, 5, 5, 96, 46, 153, 0, 7, 4]
abbrev dktL_law_55 : List UInt8 := dkwL_law_55 ++ dktL_law_56
def dkwL_law_54 : List UInt8 := [3, 47, 21, 7, 153, 0, 7, 10, 167, 0, 4, 9, 148, 153, 0, 5, 3, 172, 167, 2, 204, 43, 42]
abbrev dktL_law_54 : List UInt8 := dkwL_law_54 ++ dktL_law_55
def dkwL_law_53 : List UInt8 := [96, 46, 182, 0, 190, 54, 7, 44, 182, 0, 127, 21, 6, 159, 0, 5, 3, 172, 21, 6, 154, 0, 22, 45]
abbrev dktL_law_53 : List UInt8 := dkwL_law_53 ++ dktL_law_54
def dkwL_law_52 : List UInt8 := [46, 42, 21, 5, 5, 96, 46, 45, 184, 0, 188, 54, 6, 44, 42, 21, 5, 4, 96, 46, 42, 21, 5, 5]
abbrev dktL_law_52 : List UInt8 := dkwL_law_52 ++ dktL_law_53
def dkwL_law_51 : List UInt8 := [154, 0, 15, 45, 3, 47, 21, 7, 133, 148, 153, 0, 5, 3, 172, 167, 3, 23, 43, 42, 21, 5, 4, 96]
abbrev dktL_law_51 : List UInt8 := dkwL_law_51 ++ dktL_law_52
def dkwL_law_50 : List UInt8 := [42, 21, 5, 5, 96, 46, 182, 0, 187, 54, 7, 44, 182, 0, 127, 21, 6, 159, 0, 5, 3, 172, 21, 6]
abbrev dktL_law_50 : List UInt8 := dkwL_law_50 ++ dktL_law_51
def dkwL_law_49 : List UInt8 := [21, 5, 4, 96, 46, 42, 21, 5, 5, 96, 46, 45, 184, 0, 185, 54, 6, 44, 42, 21, 5, 4, 96, 46]
abbrev dktL_law_49 : List UInt8 := dkwL_law_49 ++ dktL_law_50
def dkwL_law_48 : List UInt8 := [153, 0, 5, 3, 172, 167, 3, 104, 43, 182, 0, 181, 44, 182, 0, 184, 159, 3, 93, 3, 172, 43, 42]
abbrev dktL_law_48 : List UInt8 := dkwL_law_48 ++ dktL_law_49
def dkwL_law_47 : List UInt8 := [182, 0, 127, 21, 6, 159, 0, 5, 3, 172, 21, 6, 154, 0, 15, 45, 3, 47, 21, 7, 133, 148]
abbrev dktL_law_47 : List UInt8 := dkwL_law_47 ++ dktL_law_48
def dkwL_law_46 : List UInt8 := [184, 0, 178, 54, 6, 44, 42, 21, 5, 4, 96, 46, 42, 21, 5, 5, 96, 46, 182, 0, 180, 54, 7, 44]
abbrev dktL_law_46 : List UInt8 := dkwL_law_46 ++ dktL_law_47
def dkwL_law_45 : List UInt8 := [148, 153, 0, 5, 3, 172, 167, 3, 172, 43, 42, 21, 5, 4, 96, 46, 42, 21, 5, 5, 96, 46, 45]
abbrev dktL_law_45 : List UInt8 := dkwL_law_45 ++ dktL_law_46
def dkwL_law_44 : List UInt8 := [54, 7, 44, 182, 0, 127, 21, 6, 159, 0, 5, 3, 172, 21, 6, 154, 0, 15, 45, 3, 47, 21, 7, 133]
abbrev dktL_law_44 : List UInt8 := dkwL_law_44 ++ dktL_law_45
def dkwL_law_43 : List UInt8 := [46, 45, 184, 0, 175, 54, 6, 44, 42, 21, 5, 4, 96, 46, 42, 21, 5, 5, 96, 46, 182, 0, 177]
abbrev dktL_law_43 : List UInt8 := dkwL_law_43 ++ dktL_law_44
def dkwL_law_42 : List UInt8 := [167, 0, 4, 3, 182, 0, 174, 159, 3, 242, 3, 172, 43, 42, 21, 5, 4, 96, 46, 42, 21, 5, 5, 96]
abbrev dktL_law_42 : List UInt8 := dkwL_law_42 ++ dktL_law_43
def dkwL_law_41 : List UInt8 := [46, 153, 0, 7, 4, 167, 0, 4, 3, 182, 0, 170, 44, 42, 21, 5, 4, 96, 46, 153, 0, 7, 4]
abbrev dktL_law_41 : List UInt8 := dkwL_law_41 ++ dktL_law_42
def dkwL_law_40 : List UInt8 := [154, 0, 15, 45, 3, 47, 21, 7, 133, 148, 153, 0, 5, 3, 172, 167, 4, 25, 43, 42, 21, 5, 4, 96]
abbrev dktL_law_40 : List UInt8 := dkwL_law_40 ++ dktL_law_41
def dkwL_law_39 : List UInt8 := [21, 5, 4, 96, 46, 182, 0, 169, 54, 7, 44, 182, 0, 127, 21, 6, 159, 0, 5, 3, 172, 21, 6]
abbrev dktL_law_39 : List UInt8 := dkwL_law_39 ++ dktL_law_40
def dkwL_law_38 : List UInt8 := [148, 153, 0, 5, 3, 172, 167, 4, 81, 43, 42, 21, 5, 4, 96, 46, 45, 184, 0, 167, 54, 6, 44, 42]
abbrev dktL_law_38 : List UInt8 := dkwL_law_38 ++ dktL_law_39
def dkwL_law_37 : List UInt8 := [54, 7, 44, 182, 0, 127, 21, 6, 159, 0, 5, 3, 172, 21, 6, 154, 0, 15, 45, 3, 47, 21, 7, 133]
abbrev dktL_law_37 : List UInt8 := dkwL_law_37 ++ dktL_law_38
def dkwL_law_36 : List UInt8 := [46, 45, 184, 0, 164, 54, 6, 44, 42, 21, 5, 4, 96, 46, 42, 21, 5, 5, 96, 46, 182, 0, 166]
abbrev dktL_law_36 : List UInt8 := dkwL_law_36 ++ dktL_law_37
def dkwL_law_35 : List UInt8 := [21, 7, 133, 148, 153, 0, 5, 3, 172, 167, 4, 149, 43, 42, 21, 5, 4, 96, 46, 42, 21, 5, 5, 96]
abbrev dktL_law_35 : List UInt8 := dkwL_law_35 ++ dktL_law_36
def dkwL_law_34 : List UInt8 := [182, 0, 163, 54, 7, 44, 182, 0, 127, 21, 6, 159, 0, 5, 3, 172, 21, 6, 154, 0, 15, 45, 3, 47]
abbrev dktL_law_34 : List UInt8 := dkwL_law_34 ++ dktL_law_35
def dkwL_law_33 : List UInt8 := [167, 4, 205, 43, 42, 21, 5, 4, 96, 46, 45, 184, 0, 161, 54, 6, 44, 42, 21, 5, 4, 96, 46]
abbrev dktL_law_33 : List UInt8 := dkwL_law_33 ++ dktL_law_34
def dkwL_law_32 : List UInt8 := [159, 0, 5, 3, 172, 21, 6, 154, 0, 15, 45, 3, 47, 21, 7, 133, 148, 153, 0, 5, 3, 172]
abbrev dktL_law_32 : List UInt8 := dkwL_law_32 ++ dktL_law_33
def dkwL_law_31 : List UInt8 := [42, 21, 5, 6, 96, 46, 42, 21, 5, 7, 96, 46, 182, 0, 160, 54, 7, 44, 182, 0, 127, 21, 6]
abbrev dktL_law_31 : List UInt8 := dkwL_law_31 ++ dktL_law_32
def dkwL_law_30 : List UInt8 := [21, 5, 7, 96, 46, 45, 184, 0, 157, 54, 6, 44, 42, 21, 5, 4, 96, 46, 42, 21, 5, 5, 96, 46]
abbrev dktL_law_30 : List UInt8 := dkwL_law_30 ++ dktL_law_31
def dkwL_law_29 : List UInt8 := [167, 5, 41, 43, 42, 21, 5, 4, 96, 46, 42, 21, 5, 5, 96, 46, 42, 21, 5, 6, 96, 46, 42]
abbrev dktL_law_29 : List UInt8 := dkwL_law_29 ++ dktL_law_30
def dkwL_law_28 : List UInt8 := [21, 6, 159, 0, 5, 3, 172, 21, 6, 154, 0, 15, 45, 3, 47, 21, 7, 133, 148, 153, 0, 5, 3, 172]
abbrev dktL_law_28 : List UInt8 := dkwL_law_28 ++ dktL_law_29
def dkwL_law_27 : List UInt8 := [96, 46, 42, 21, 5, 5, 96, 46, 42, 21, 5, 6, 96, 46, 182, 0, 156, 54, 7, 44, 182, 0, 127]
abbrev dktL_law_27 : List UInt8 := dkwL_law_27 ++ dktL_law_28
def dkwL_law_26 : List UInt8 := [46, 42, 21, 5, 5, 96, 46, 42, 21, 5, 6, 96, 46, 45, 184, 0, 153, 54, 6, 44, 42, 21, 5, 4]
abbrev dktL_law_26 : List UInt8 := dkwL_law_26 ++ dktL_law_27
def dkwL_law_25 : List UInt8 := [154, 0, 15, 45, 3, 47, 21, 7, 133, 148, 153, 0, 5, 3, 172, 167, 5, 121, 43, 42, 21, 5, 4, 96]
abbrev dktL_law_25 : List UInt8 := dkwL_law_25 ++ dktL_law_26
def dkwL_law_24 : List UInt8 := [21, 5, 4, 96, 46, 182, 0, 152, 54, 7, 44, 182, 0, 127, 21, 6, 159, 0, 5, 3, 172, 21, 6]
abbrev dktL_law_24 : List UInt8 := dkwL_law_24 ++ dktL_law_25
def dkwL_law_23 : List UInt8 := [149, 154, 0, 5, 3, 172, 167, 5, 177, 43, 42, 21, 5, 4, 96, 46, 45, 184, 0, 150, 54, 6, 44, 42]
abbrev dktL_law_23 : List UInt8 := dkwL_law_23 ++ dktL_law_24
def dkwL_law_22 : List UInt8 := [49, 23, 7, 141, 151, 153, 0, 25, 25, 4, 3, 49, 25, 4, 3, 49, 151, 153, 0, 11, 23, 7, 23, 7]
abbrev dktL_law_22 : List UInt8 := dkwL_law_22 ++ dktL_law_23
def dkwL_law_21 : List UInt8 := [182, 0, 149, 56, 7, 44, 182, 0, 127, 21, 6, 159, 0, 5, 3, 172, 21, 6, 154, 0, 36, 25, 4, 3]
abbrev dktL_law_21 : List UInt8 := dkwL_law_21 ++ dktL_law_22
def dkwL_law_20 : List UInt8 := [167, 5, 255, 43, 42, 21, 5, 4, 96, 46, 25, 4, 184, 0, 146, 54, 6, 44, 42, 21, 5, 4, 96, 46]
abbrev dktL_law_20 : List UInt8 := dkwL_law_20 ++ dktL_law_21
def dkwL_law_19 : List UInt8 := [159, 0, 5, 3, 172, 21, 6, 154, 0, 15, 45, 3, 47, 21, 7, 133, 148, 153, 0, 5, 3, 172]
abbrev dktL_law_19 : List UInt8 := dkwL_law_19 ++ dktL_law_20
def dkwL_law_18 : List UInt8 := [21, 5, 4, 96, 46, 42, 21, 5, 5, 96, 46, 182, 0, 145, 54, 7, 44, 182, 0, 127, 21, 6]
abbrev dktL_law_18 : List UInt8 := dkwL_law_18 ++ dktL_law_19
def dkwL_law_17 : List UInt8 := [167, 6, 67, 43, 42, 21, 5, 4, 96, 46, 42, 21, 5, 5, 96, 46, 45, 184, 0, 143, 54, 6, 44, 42]
abbrev dktL_law_17 : List UInt8 := dkwL_law_17 ++ dktL_law_18
def dkwL_law_16 : List UInt8 := [159, 0, 5, 3, 172, 21, 6, 154, 0, 15, 45, 3, 47, 21, 7, 133, 148, 153, 0, 5, 3, 172]
abbrev dktL_law_16 : List UInt8 := dkwL_law_16 ++ dktL_law_17
def dkwL_law_15 : List UInt8 := [21, 5, 4, 96, 46, 42, 21, 5, 5, 96, 46, 182, 0, 142, 54, 7, 44, 182, 0, 127, 21, 6]
abbrev dktL_law_15 : List UInt8 := dkwL_law_15 ++ dktL_law_16
def dkwL_law_14 : List UInt8 := [167, 6, 135, 43, 42, 21, 5, 4, 96, 46, 42, 21, 5, 5, 96, 46, 45, 184, 0, 140, 54, 6, 44, 42]
abbrev dktL_law_14 : List UInt8 := dkwL_law_14 ++ dktL_law_15
def dkwL_law_13 : List UInt8 := [159, 0, 5, 3, 172, 21, 6, 154, 0, 15, 45, 3, 47, 21, 7, 133, 148, 153, 0, 5, 3, 172]
abbrev dktL_law_13 : List UInt8 := dkwL_law_13 ++ dktL_law_14
def dkwL_law_12 : List UInt8 := [21, 5, 4, 96, 46, 42, 21, 5, 5, 96, 46, 182, 0, 139, 54, 7, 44, 182, 0, 127, 21, 6]
abbrev dktL_law_12 : List UInt8 := dkwL_law_12 ++ dktL_law_13
def dkwL_law_11 : List UInt8 := [167, 6, 203, 43, 42, 21, 5, 4, 96, 46, 42, 21, 5, 5, 96, 46, 45, 184, 0, 137, 54, 6, 44, 42]
abbrev dktL_law_11 : List UInt8 := dkwL_law_11 ++ dktL_law_12
def dkwL_law_10 : List UInt8 := [21, 6, 159, 0, 5, 3, 172, 21, 6, 154, 0, 15, 45, 3, 47, 21, 7, 133, 148, 153, 0, 5, 3, 172]
abbrev dktL_law_10 : List UInt8 := dkwL_law_10 ++ dktL_law_11
def dkwL_law_9 : List UInt8 := [46, 45, 184, 0, 133, 54, 6, 44, 42, 21, 5, 4, 96, 46, 182, 0, 136, 54, 7, 44, 182, 0, 127]
abbrev dktL_law_9 : List UInt8 := dkwL_law_9 ++ dktL_law_10
def dkwL_law_8 : List UInt8 := [154, 0, 15, 45, 3, 47, 21, 7, 133, 148, 153, 0, 5, 3, 172, 167, 7, 3, 43, 42, 21, 5, 4, 96]
abbrev dktL_law_8 : List UInt8 := dkwL_law_8 ++ dktL_law_9
def dkwL_law_7 : List UInt8 := [21, 5, 5, 96, 46, 182, 0, 132, 54, 7, 44, 182, 0, 127, 21, 6, 159, 0, 5, 3, 172, 21, 6]
abbrev dktL_law_7 : List UInt8 := dkwL_law_7 ++ dktL_law_8
def dkwL_law_6 : List UInt8 := [4, 96, 46, 42, 21, 5, 5, 96, 46, 45, 184, 0, 130, 54, 6, 44, 42, 21, 5, 4, 96, 46, 42]
abbrev dktL_law_6 : List UInt8 := dkwL_law_6 ++ dktL_law_7
def dkwL_law_5 : List UInt8 := [21, 6, 154, 0, 15, 45, 3, 47, 21, 7, 133, 148, 153, 0, 5, 3, 172, 167, 7, 71, 43, 42, 21, 5]
abbrev dktL_law_5 : List UInt8 := dkwL_law_5 ++ dktL_law_6
def dkwL_law_4 : List UInt8 := [96, 46, 42, 21, 5, 5, 96, 46, 182, 0, 126, 54, 7, 44, 182, 0, 127, 21, 6, 159, 0, 5, 3, 172]
abbrev dktL_law_4 : List UInt8 := dkwL_law_4 ++ dktL_law_5
def dkwL_law_3 : List UInt8 := [43, 42, 21, 5, 4, 96, 46, 42, 21, 5, 5, 96, 46, 45, 184, 0, 121, 54, 6, 44, 42, 21, 5, 4]
abbrev dktL_law_3 : List UInt8 := dkwL_law_3 ++ dktL_law_4
def dkwL_law_2 : List UInt8 := [170, 0, 0, 0, 0, 0, 8, 32, 0, 0, 0, 0, 0, 0, 0, 33, 0, 0, 0, 152, 0, 0, 0, 220, 0, 0, 1, 32, 0, 0, 1, 88, 0, 0, 1, 156, 0, 0, 1, 224, 0, 0, 2, 36, 0, 0, 2, 114, 0, 0, 2, 170, 0, 0, 2, 250, 0, 0, 3, 86, 0, 0, 3, 142, 0, 0, 3, 210, 0, 0, 4, 10, 0, 0, 4, 51, 0, 0, 4, 119, 0, 0, 4, 187, 0, 0, 4, 200, 0, 0, 5, 12, 0, 0, 5, 87, 0, 0, 5, 187, 0, 0, 6, 9, 0, 0, 6, 53, 0, 0, 6, 66, 0, 0, 6, 122, 0, 0, 6, 180, 0, 0, 6, 224, 0, 0, 6, 237, 0, 0, 7, 53, 0, 0, 7, 109, 0, 0, 7, 122, 0, 0, 7, 187, 0, 0, 7, 231, 0, 0, 7, 244]
abbrev dktL_law_2 : List UInt8 := dkwL_law_2 ++ dktL_law_3
def dkwL_law_1 : List UInt8 := [58, 4, 3, 54, 5, 21, 5, 42, 190, 8, 100, 163, 8, 48, 42, 21, 5, 46, 16, 63, 126]
abbrev dktL_law_1 : List UInt8 := dkwL_law_1 ++ dktL_law_2
def dkwL_law_0 : List UInt8 := [187, 0, 8, 89, 183, 0, 117, 76, 187, 0, 118, 89, 183, 0, 120, 77, 4, 188, 11, 78, 4, 188, 7]
abbrev dktL_law_0 : List UInt8 := dkwL_law_0 ++ dktL_law_1
theorem dksL_law_0 : cL_law.data.toList.drop 0 = dktL_law_0 := by decide +kernel
theorem dksL_law_1 : cL_law.data.toList.drop 23 = dktL_law_1 := dk_seg dksL_law_0 23 rfl rfl
theorem dksL_law_2 : cL_law.data.toList.drop 44 = dktL_law_2 := dk_seg dksL_law_1 21 rfl rfl
theorem dksL_law_3 : cL_law.data.toList.drop 196 = dktL_law_3 := dk_seg dksL_law_2 152 rfl rfl
theorem dksL_law_4 : cL_law.data.toList.drop 220 = dktL_law_4 := dk_seg dksL_law_3 24 rfl rfl
theorem dksL_law_5 : cL_law.data.toList.drop 244 = dktL_law_5 := dk_seg dksL_law_4 24 rfl rfl
theorem dksL_law_6 : cL_law.data.toList.drop 268 = dktL_law_6 := dk_seg dksL_law_5 24 rfl rfl
theorem dksL_law_7 : cL_law.data.toList.drop 291 = dktL_law_7 := dk_seg dksL_law_6 23 rfl rfl
theorem dksL_law_8 : cL_law.data.toList.drop 314 = dktL_law_8 := dk_seg dksL_law_7 23 rfl rfl
theorem dksL_law_9 : cL_law.data.toList.drop 338 = dktL_law_9 := dk_seg dksL_law_8 24 rfl rfl
theorem dksL_law_10 : cL_law.data.toList.drop 361 = dktL_law_10 := dk_seg dksL_law_9 23 rfl rfl
theorem dksL_law_11 : cL_law.data.toList.drop 385 = dktL_law_11 := dk_seg dksL_law_10 24 rfl rfl
theorem dksL_law_12 : cL_law.data.toList.drop 409 = dktL_law_12 := dk_seg dksL_law_11 24 rfl rfl
theorem dksL_law_13 : cL_law.data.toList.drop 431 = dktL_law_13 := dk_seg dksL_law_12 22 rfl rfl
theorem dksL_law_14 : cL_law.data.toList.drop 453 = dktL_law_14 := dk_seg dksL_law_13 22 rfl rfl
theorem dksL_law_15 : cL_law.data.toList.drop 477 = dktL_law_15 := dk_seg dksL_law_14 24 rfl rfl
theorem dksL_law_16 : cL_law.data.toList.drop 499 = dktL_law_16 := dk_seg dksL_law_15 22 rfl rfl
theorem dksL_law_17 : cL_law.data.toList.drop 521 = dktL_law_17 := dk_seg dksL_law_16 22 rfl rfl
theorem dksL_law_18 : cL_law.data.toList.drop 545 = dktL_law_18 := dk_seg dksL_law_17 24 rfl rfl
theorem dksL_law_19 : cL_law.data.toList.drop 567 = dktL_law_19 := dk_seg dksL_law_18 22 rfl rfl
theorem dksL_law_20 : cL_law.data.toList.drop 589 = dktL_law_20 := dk_seg dksL_law_19 22 rfl rfl
theorem dksL_law_21 : cL_law.data.toList.drop 613 = dktL_law_21 := dk_seg dksL_law_20 24 rfl rfl
theorem dksL_law_22 : cL_law.data.toList.drop 637 = dktL_law_22 := dk_seg dksL_law_21 24 rfl rfl
theorem dksL_law_23 : cL_law.data.toList.drop 661 = dktL_law_23 := dk_seg dksL_law_22 24 rfl rfl
theorem dksL_law_24 : cL_law.data.toList.drop 685 = dktL_law_24 := dk_seg dksL_law_23 24 rfl rfl
theorem dksL_law_25 : cL_law.data.toList.drop 708 = dktL_law_25 := dk_seg dksL_law_24 23 rfl rfl
theorem dksL_law_26 : cL_law.data.toList.drop 732 = dktL_law_26 := dk_seg dksL_law_25 24 rfl rfl
theorem dksL_law_27 : cL_law.data.toList.drop 756 = dktL_law_27 := dk_seg dksL_law_26 24 rfl rfl
theorem dksL_law_28 : cL_law.data.toList.drop 779 = dktL_law_28 := dk_seg dksL_law_27 23 rfl rfl
theorem dksL_law_29 : cL_law.data.toList.drop 803 = dktL_law_29 := dk_seg dksL_law_28 24 rfl rfl
theorem dksL_law_30 : cL_law.data.toList.drop 826 = dktL_law_30 := dk_seg dksL_law_29 23 rfl rfl
theorem dksL_law_31 : cL_law.data.toList.drop 850 = dktL_law_31 := dk_seg dksL_law_30 24 rfl rfl
theorem dksL_law_32 : cL_law.data.toList.drop 873 = dktL_law_32 := dk_seg dksL_law_31 23 rfl rfl
theorem dksL_law_33 : cL_law.data.toList.drop 895 = dktL_law_33 := dk_seg dksL_law_32 22 rfl rfl
theorem dksL_law_34 : cL_law.data.toList.drop 918 = dktL_law_34 := dk_seg dksL_law_33 23 rfl rfl
theorem dksL_law_35 : cL_law.data.toList.drop 942 = dktL_law_35 := dk_seg dksL_law_34 24 rfl rfl
theorem dksL_law_36 : cL_law.data.toList.drop 966 = dktL_law_36 := dk_seg dksL_law_35 24 rfl rfl
theorem dksL_law_37 : cL_law.data.toList.drop 989 = dktL_law_37 := dk_seg dksL_law_36 23 rfl rfl
theorem dksL_law_38 : cL_law.data.toList.drop 1013 = dktL_law_38 := dk_seg dksL_law_37 24 rfl rfl
theorem dksL_law_39 : cL_law.data.toList.drop 1037 = dktL_law_39 := dk_seg dksL_law_38 24 rfl rfl
theorem dksL_law_40 : cL_law.data.toList.drop 1060 = dktL_law_40 := dk_seg dksL_law_39 23 rfl rfl
theorem dksL_law_41 : cL_law.data.toList.drop 1084 = dktL_law_41 := dk_seg dksL_law_40 24 rfl rfl
theorem dksL_law_42 : cL_law.data.toList.drop 1107 = dktL_law_42 := dk_seg dksL_law_41 23 rfl rfl
theorem dksL_law_43 : cL_law.data.toList.drop 1131 = dktL_law_43 := dk_seg dksL_law_42 24 rfl rfl
theorem dksL_law_44 : cL_law.data.toList.drop 1154 = dktL_law_44 := dk_seg dksL_law_43 23 rfl rfl
theorem dksL_law_45 : cL_law.data.toList.drop 1178 = dktL_law_45 := dk_seg dksL_law_44 24 rfl rfl
theorem dksL_law_46 : cL_law.data.toList.drop 1201 = dktL_law_46 := dk_seg dksL_law_45 23 rfl rfl
theorem dksL_law_47 : cL_law.data.toList.drop 1225 = dktL_law_47 := dk_seg dksL_law_46 24 rfl rfl
theorem dksL_law_48 : cL_law.data.toList.drop 1247 = dktL_law_48 := dk_seg dksL_law_47 22 rfl rfl
theorem dksL_law_49 : cL_law.data.toList.drop 1270 = dktL_law_49 := dk_seg dksL_law_48 23 rfl rfl
theorem dksL_law_50 : cL_law.data.toList.drop 1294 = dktL_law_50 := dk_seg dksL_law_49 24 rfl rfl
theorem dksL_law_51 : cL_law.data.toList.drop 1318 = dktL_law_51 := dk_seg dksL_law_50 24 rfl rfl
theorem dksL_law_52 : cL_law.data.toList.drop 1342 = dktL_law_52 := dk_seg dksL_law_51 24 rfl rfl
theorem dksL_law_53 : cL_law.data.toList.drop 1366 = dktL_law_53 := dk_seg dksL_law_52 24 rfl rfl
theorem dksL_law_54 : cL_law.data.toList.drop 1390 = dktL_law_54 := dk_seg dksL_law_53 24 rfl rfl
theorem dksL_law_55 : cL_law.data.toList.drop 1413 = dktL_law_55 := dk_seg dksL_law_54 23 rfl rfl
theorem dksL_law_56 : cL_law.data.toList.drop 1436 = dktL_law_56 := dk_seg dksL_law_55 23 rfl rfl
theorem dksL_law_57 : cL_law.data.toList.drop 1460 = dktL_law_57 := dk_seg dksL_law_56 24 rfl rfl
theorem dksL_law_58 : cL_law.data.toList.drop 1484 = dktL_law_58 := dk_seg dksL_law_57 24 rfl rfl
theorem dksL_law_59 : cL_law.data.toList.drop 1508 = dktL_law_59 := dk_seg dksL_law_58 24 rfl rfl
theorem dksL_law_60 : cL_law.data.toList.drop 1532 = dktL_law_60 := dk_seg dksL_law_59 24 rfl rfl
theorem dksL_law_61 : cL_law.data.toList.drop 1556 = dktL_law_61 := dk_seg dksL_law_60 24 rfl rfl
theorem dksL_law_62 : cL_law.data.toList.drop 1580 = dktL_law_62 := dk_seg dksL_law_61 24 rfl rfl
theorem dksL_law_63 : cL_law.data.toList.drop 1603 = dktL_law_63 := dk_seg dksL_law_62 23 rfl rfl
theorem dksL_law_64 : cL_law.data.toList.drop 1625 = dktL_law_64 := dk_seg dksL_law_63 22 rfl rfl
theorem dksL_law_65 : cL_law.data.toList.drop 1648 = dktL_law_65 := dk_seg dksL_law_64 23 rfl rfl
theorem dksL_law_66 : cL_law.data.toList.drop 1672 = dktL_law_66 := dk_seg dksL_law_65 24 rfl rfl
theorem dksL_law_67 : cL_law.data.toList.drop 1694 = dktL_law_67 := dk_seg dksL_law_66 22 rfl rfl
theorem dksL_law_68 : cL_law.data.toList.drop 1718 = dktL_law_68 := dk_seg dksL_law_67 24 rfl rfl
theorem dksL_law_69 : cL_law.data.toList.drop 1742 = dktL_law_69 := dk_seg dksL_law_68 24 rfl rfl
theorem dksL_law_70 : cL_law.data.toList.drop 1765 = dktL_law_70 := dk_seg dksL_law_69 23 rfl rfl
theorem dksL_law_71 : cL_law.data.toList.drop 1789 = dktL_law_71 := dk_seg dksL_law_70 24 rfl rfl
theorem dksL_law_72 : cL_law.data.toList.drop 1812 = dktL_law_72 := dk_seg dksL_law_71 23 rfl rfl
theorem dksL_law_73 : cL_law.data.toList.drop 1836 = dktL_law_73 := dk_seg dksL_law_72 24 rfl rfl
theorem dksL_law_74 : cL_law.data.toList.drop 1859 = dktL_law_74 := dk_seg dksL_law_73 23 rfl rfl
theorem dksL_law_75 : cL_law.data.toList.drop 1881 = dktL_law_75 := dk_seg dksL_law_74 22 rfl rfl
theorem dksL_law_76 : cL_law.data.toList.drop 1904 = dktL_law_76 := dk_seg dksL_law_75 23 rfl rfl
theorem dksL_law_77 : cL_law.data.toList.drop 1927 = dktL_law_77 := dk_seg dksL_law_76 23 rfl rfl
theorem dksL_law_78 : cL_law.data.toList.drop 1950 = dktL_law_78 := dk_seg dksL_law_77 23 rfl rfl
theorem dksL_law_79 : cL_law.data.toList.drop 1973 = dktL_law_79 := dk_seg dksL_law_78 23 rfl rfl
theorem dksL_law_80 : cL_law.data.toList.drop 1995 = dktL_law_80 := dk_seg dksL_law_79 22 rfl rfl
theorem dksL_law_81 : cL_law.data.toList.drop 2019 = dktL_law_81 := dk_seg dksL_law_80 24 rfl rfl
theorem dksL_law_82 : cL_law.data.toList.drop 2042 = dktL_law_82 := dk_seg dksL_law_81 23 rfl rfl
theorem dksL_law_83 : cL_law.data.toList.drop 2064 = dktL_law_83 := dk_seg dksL_law_82 22 rfl rfl
theorem dksL_law_84 : cL_law.data.toList.drop 2088 = dktL_law_84 := dk_seg dksL_law_83 24 rfl rfl
theorem dksL_law_85 : cL_law.data.toList.drop 2112 = dktL_law_85 := dk_seg dksL_law_84 24 rfl rfl
theorem dL_law_0 : decode cL_law 0 = .ok (.new 8, 3) := dk_187 0 8 (dk_at dksL_law_0 0 rfl rfl)
theorem dL_law_3 : decode cL_law 3 = .ok (.dup, 1) := dk_89 (dk_at dksL_law_0 3 rfl rfl)
theorem dL_law_4 : decode cL_law 4 = .ok (.invokespecial 117, 3) := dk_183 0 117 (dk_at dksL_law_0 4 rfl rfl)
theorem dL_law_7 : decode cL_law 7 = .ok (.astore_n 1, 1) := dk_76 (dk_at dksL_law_0 7 rfl rfl)
theorem dL_law_8 : decode cL_law 8 = .ok (.new 118, 3) := dk_187 0 118 (dk_at dksL_law_0 8 rfl rfl)
theorem dL_law_11 : decode cL_law 11 = .ok (.dup, 1) := dk_89 (dk_at dksL_law_0 11 rfl rfl)
theorem dL_law_12 : decode cL_law 12 = .ok (.invokespecial 120, 3) := dk_183 0 120 (dk_at dksL_law_0 12 rfl rfl)
theorem dL_law_15 : decode cL_law 15 = .ok (.astore_n 2, 1) := dk_77 (dk_at dksL_law_0 15 rfl rfl)
theorem dL_law_16 : decode cL_law 16 = .ok (.iconst 1, 1) := dk_4 (dk_at dksL_law_0 16 rfl rfl)
theorem dL_law_17 : decode cL_law 17 = .ok (.newarray .long, 2) := dk_188_11 (dk_at dksL_law_0 17 rfl rfl)
theorem dL_law_19 : decode cL_law 19 = .ok (.astore_n 3, 1) := dk_78 (dk_at dksL_law_0 19 rfl rfl)
theorem dL_law_20 : decode cL_law 20 = .ok (.iconst 1, 1) := dk_4 (dk_at dksL_law_0 20 rfl rfl)
theorem dL_law_21 : decode cL_law 21 = .ok (.newarray .double, 2) := dk_188_7 (dk_at dksL_law_0 21 rfl rfl)
theorem dL_law_23 : decode cL_law 23 = .ok (.astore 4, 2) := dk_58 4 (dk_at dksL_law_1 0 rfl rfl)
theorem dL_law_25 : decode cL_law 25 = .ok (.iconst 0, 1) := dk_3 (dk_at dksL_law_1 2 rfl rfl)
theorem dL_law_26 : decode cL_law 26 = .ok (.istore 5, 2) := dk_54 5 (dk_at dksL_law_1 3 rfl rfl)
theorem dL_law_28 : decode cL_law 28 = .ok (.iload 5, 2) := dk_21 5 (dk_at dksL_law_1 5 rfl rfl)
theorem dL_law_30 : decode cL_law 30 = .ok (.aload_n 0, 1) := dk_42 (dk_at dksL_law_1 7 rfl rfl)
theorem dL_law_31 : decode cL_law 31 = .ok (.arraylength, 1) := dk_190 (dk_at dksL_law_1 8 rfl rfl)
theorem dL_law_32 : decode cL_law 32 = .ok (.iconst 5, 1) := dk_8 (dk_at dksL_law_1 9 rfl rfl)
theorem dL_law_33 : decode cL_law 33 = .ok (.isub, 1) := dk_100 (dk_at dksL_law_1 10 rfl rfl)
theorem dL_law_34 : decode cL_law 34 = .ok (.if_icmp .gt 2096, 3) := dk_163 8 48 (dk_at dksL_law_1 11 rfl rfl)
theorem dL_law_37 : decode cL_law 37 = .ok (.aload_n 0, 1) := dk_42 (dk_at dksL_law_1 14 rfl rfl)
theorem dL_law_38 : decode cL_law 38 = .ok (.iload 5, 2) := dk_21 5 (dk_at dksL_law_1 15 rfl rfl)
theorem dL_law_40 : decode cL_law 40 = .ok (.iaload, 1) := dk_46 (dk_at dksL_law_1 17 rfl rfl)
theorem dL_law_41 : decode cL_law 41 = .ok (.bipush 63, 2) := dk_16 63 (dk_at dksL_law_1 18 rfl rfl)
theorem dL_law_43 : decode cL_law 43 = .ok (.iand, 1) := dk_126 (dk_at dksL_law_1 20 rfl rfl)
theorem dL_law_44 : decode cL_law 44 = .ok (.tableswitch 2080 0 33 #[152, 220, 288, 344, 412, 480, 548, 626, 682, 762, 854, 910, 978, 1034, 1075, 1143, 1211, 1224, 1292, 1367, 1467, 1545, 1589, 1602, 1658, 1716, 1760, 1773, 1845, 1901, 1914, 1979, 2023, 2036], 152) := by decide +kernel
theorem dL_law_196 : decode cL_law 196 = .ok (.aload_n 1, 1) := dk_43 (dk_at dksL_law_3 0 rfl rfl)
theorem dL_law_197 : decode cL_law 197 = .ok (.aload_n 0, 1) := dk_42 (dk_at dksL_law_3 1 rfl rfl)
theorem dL_law_198 : decode cL_law 198 = .ok (.iload 5, 2) := dk_21 5 (dk_at dksL_law_3 2 rfl rfl)
theorem dL_law_200 : decode cL_law 200 = .ok (.iconst 1, 1) := dk_4 (dk_at dksL_law_3 4 rfl rfl)
theorem dL_law_201 : decode cL_law 201 = .ok (.iadd, 1) := dk_96 (dk_at dksL_law_3 5 rfl rfl)
theorem dL_law_202 : decode cL_law 202 = .ok (.iaload, 1) := dk_46 (dk_at dksL_law_3 6 rfl rfl)
theorem dL_law_203 : decode cL_law 203 = .ok (.aload_n 0, 1) := dk_42 (dk_at dksL_law_3 7 rfl rfl)
theorem dL_law_204 : decode cL_law 204 = .ok (.iload 5, 2) := dk_21 5 (dk_at dksL_law_3 8 rfl rfl)
theorem dL_law_206 : decode cL_law 206 = .ok (.iconst 2, 1) := dk_5 (dk_at dksL_law_3 10 rfl rfl)
theorem dL_law_207 : decode cL_law 207 = .ok (.iadd, 1) := dk_96 (dk_at dksL_law_3 11 rfl rfl)
theorem dL_law_208 : decode cL_law 208 = .ok (.iaload, 1) := dk_46 (dk_at dksL_law_3 12 rfl rfl)
theorem dL_law_209 : decode cL_law 209 = .ok (.aload_n 3, 1) := dk_45 (dk_at dksL_law_3 13 rfl rfl)
theorem dL_law_210 : decode cL_law 210 = .ok (.invokestatic 121, 3) := dk_184 0 121 (dk_at dksL_law_3 14 rfl rfl)
theorem dL_law_213 : decode cL_law 213 = .ok (.istore 6, 2) := dk_54 6 (dk_at dksL_law_3 17 rfl rfl)
theorem dL_law_215 : decode cL_law 215 = .ok (.aload_n 2, 1) := dk_44 (dk_at dksL_law_3 19 rfl rfl)
theorem dL_law_216 : decode cL_law 216 = .ok (.aload_n 0, 1) := dk_42 (dk_at dksL_law_3 20 rfl rfl)
theorem dL_law_217 : decode cL_law 217 = .ok (.iload 5, 2) := dk_21 5 (dk_at dksL_law_3 21 rfl rfl)
theorem dL_law_219 : decode cL_law 219 = .ok (.iconst 1, 1) := dk_4 (dk_at dksL_law_3 23 rfl rfl)
theorem dL_law_220 : decode cL_law 220 = .ok (.iadd, 1) := dk_96 (dk_at dksL_law_4 0 rfl rfl)
theorem dL_law_221 : decode cL_law 221 = .ok (.iaload, 1) := dk_46 (dk_at dksL_law_4 1 rfl rfl)
theorem dL_law_222 : decode cL_law 222 = .ok (.aload_n 0, 1) := dk_42 (dk_at dksL_law_4 2 rfl rfl)
theorem dL_law_223 : decode cL_law 223 = .ok (.iload 5, 2) := dk_21 5 (dk_at dksL_law_4 3 rfl rfl)
theorem dL_law_225 : decode cL_law 225 = .ok (.iconst 2, 1) := dk_5 (dk_at dksL_law_4 5 rfl rfl)
theorem dL_law_226 : decode cL_law 226 = .ok (.iadd, 1) := dk_96 (dk_at dksL_law_4 6 rfl rfl)
theorem dL_law_227 : decode cL_law 227 = .ok (.iaload, 1) := dk_46 (dk_at dksL_law_4 7 rfl rfl)
theorem dL_law_228 : decode cL_law 228 = .ok (.invokevirtual 126, 3) := dk_182 0 126 (dk_at dksL_law_4 8 rfl rfl)
theorem dL_law_231 : decode cL_law 231 = .ok (.istore 7, 2) := dk_54 7 (dk_at dksL_law_4 11 rfl rfl)
theorem dL_law_233 : decode cL_law 233 = .ok (.aload_n 2, 1) := dk_44 (dk_at dksL_law_4 13 rfl rfl)
theorem dL_law_234 : decode cL_law 234 = .ok (.invokevirtual 127, 3) := dk_182 0 127 (dk_at dksL_law_4 14 rfl rfl)
theorem dL_law_237 : decode cL_law 237 = .ok (.iload 6, 2) := dk_21 6 (dk_at dksL_law_4 17 rfl rfl)
theorem dL_law_239 : decode cL_law 239 = .ok (.if_icmp .eq 5, 3) := dk_159 0 5 (dk_at dksL_law_4 19 rfl rfl)
theorem dL_law_242 : decode cL_law 242 = .ok (.iconst 0, 1) := dk_3 (dk_at dksL_law_4 22 rfl rfl)
theorem dL_law_243 : decode cL_law 243 = .ok (.ireturn, 1) := dk_172 (dk_at dksL_law_4 23 rfl rfl)
theorem dL_law_244 : decode cL_law 244 = .ok (.iload 6, 2) := dk_21 6 (dk_at dksL_law_5 0 rfl rfl)
theorem dL_law_246 : decode cL_law 246 = .ok (.ifCond .ne 15, 3) := dk_154 0 15 (dk_at dksL_law_5 2 rfl rfl)
theorem dL_law_249 : decode cL_law 249 = .ok (.aload_n 3, 1) := dk_45 (dk_at dksL_law_5 5 rfl rfl)
theorem dL_law_250 : decode cL_law 250 = .ok (.iconst 0, 1) := dk_3 (dk_at dksL_law_5 6 rfl rfl)
theorem dL_law_251 : decode cL_law 251 = .ok (.laload, 1) := dk_47 (dk_at dksL_law_5 7 rfl rfl)
theorem dL_law_252 : decode cL_law 252 = .ok (.iload 7, 2) := dk_21 7 (dk_at dksL_law_5 8 rfl rfl)
theorem dL_law_254 : decode cL_law 254 = .ok (.i2l, 1) := dk_133 (dk_at dksL_law_5 10 rfl rfl)
theorem dL_law_255 : decode cL_law 255 = .ok (.lcmp, 1) := dk_148 (dk_at dksL_law_5 11 rfl rfl)
theorem dL_law_256 : decode cL_law 256 = .ok (.ifCond .eq 5, 3) := dk_153 0 5 (dk_at dksL_law_5 12 rfl rfl)
theorem dL_law_259 : decode cL_law 259 = .ok (.iconst 0, 1) := dk_3 (dk_at dksL_law_5 15 rfl rfl)
theorem dL_law_260 : decode cL_law 260 = .ok (.ireturn, 1) := dk_172 (dk_at dksL_law_5 16 rfl rfl)
theorem dL_law_261 : decode cL_law 261 = .ok (.goto 1863, 3) := dk_167 7 71 (dk_at dksL_law_5 17 rfl rfl)
theorem dL_law_264 : decode cL_law 264 = .ok (.aload_n 1, 1) := dk_43 (dk_at dksL_law_5 20 rfl rfl)
theorem dL_law_265 : decode cL_law 265 = .ok (.aload_n 0, 1) := dk_42 (dk_at dksL_law_5 21 rfl rfl)
theorem dL_law_266 : decode cL_law 266 = .ok (.iload 5, 2) := dk_21 5 (dk_at dksL_law_5 22 rfl rfl)
theorem dL_law_268 : decode cL_law 268 = .ok (.iconst 1, 1) := dk_4 (dk_at dksL_law_6 0 rfl rfl)
theorem dL_law_269 : decode cL_law 269 = .ok (.iadd, 1) := dk_96 (dk_at dksL_law_6 1 rfl rfl)
theorem dL_law_270 : decode cL_law 270 = .ok (.iaload, 1) := dk_46 (dk_at dksL_law_6 2 rfl rfl)
theorem dL_law_271 : decode cL_law 271 = .ok (.aload_n 0, 1) := dk_42 (dk_at dksL_law_6 3 rfl rfl)
theorem dL_law_272 : decode cL_law 272 = .ok (.iload 5, 2) := dk_21 5 (dk_at dksL_law_6 4 rfl rfl)
theorem dL_law_274 : decode cL_law 274 = .ok (.iconst 2, 1) := dk_5 (dk_at dksL_law_6 6 rfl rfl)
theorem dL_law_275 : decode cL_law 275 = .ok (.iadd, 1) := dk_96 (dk_at dksL_law_6 7 rfl rfl)
theorem dL_law_276 : decode cL_law 276 = .ok (.iaload, 1) := dk_46 (dk_at dksL_law_6 8 rfl rfl)
theorem dL_law_277 : decode cL_law 277 = .ok (.aload_n 3, 1) := dk_45 (dk_at dksL_law_6 9 rfl rfl)
theorem dL_law_278 : decode cL_law 278 = .ok (.invokestatic 130, 3) := dk_184 0 130 (dk_at dksL_law_6 10 rfl rfl)
theorem dL_law_281 : decode cL_law 281 = .ok (.istore 6, 2) := dk_54 6 (dk_at dksL_law_6 13 rfl rfl)
theorem dL_law_283 : decode cL_law 283 = .ok (.aload_n 2, 1) := dk_44 (dk_at dksL_law_6 15 rfl rfl)
theorem dL_law_284 : decode cL_law 284 = .ok (.aload_n 0, 1) := dk_42 (dk_at dksL_law_6 16 rfl rfl)
theorem dL_law_285 : decode cL_law 285 = .ok (.iload 5, 2) := dk_21 5 (dk_at dksL_law_6 17 rfl rfl)
theorem dL_law_287 : decode cL_law 287 = .ok (.iconst 1, 1) := dk_4 (dk_at dksL_law_6 19 rfl rfl)
theorem dL_law_288 : decode cL_law 288 = .ok (.iadd, 1) := dk_96 (dk_at dksL_law_6 20 rfl rfl)
theorem dL_law_289 : decode cL_law 289 = .ok (.iaload, 1) := dk_46 (dk_at dksL_law_6 21 rfl rfl)
theorem dL_law_290 : decode cL_law 290 = .ok (.aload_n 0, 1) := dk_42 (dk_at dksL_law_6 22 rfl rfl)
theorem dL_law_291 : decode cL_law 291 = .ok (.iload 5, 2) := dk_21 5 (dk_at dksL_law_7 0 rfl rfl)
theorem dL_law_293 : decode cL_law 293 = .ok (.iconst 2, 1) := dk_5 (dk_at dksL_law_7 2 rfl rfl)
theorem dL_law_294 : decode cL_law 294 = .ok (.iadd, 1) := dk_96 (dk_at dksL_law_7 3 rfl rfl)
theorem dL_law_295 : decode cL_law 295 = .ok (.iaload, 1) := dk_46 (dk_at dksL_law_7 4 rfl rfl)
theorem dL_law_296 : decode cL_law 296 = .ok (.invokevirtual 132, 3) := dk_182 0 132 (dk_at dksL_law_7 5 rfl rfl)
theorem dL_law_299 : decode cL_law 299 = .ok (.istore 7, 2) := dk_54 7 (dk_at dksL_law_7 8 rfl rfl)
theorem dL_law_301 : decode cL_law 301 = .ok (.aload_n 2, 1) := dk_44 (dk_at dksL_law_7 10 rfl rfl)
theorem dL_law_302 : decode cL_law 302 = .ok (.invokevirtual 127, 3) := dk_182 0 127 (dk_at dksL_law_7 11 rfl rfl)
theorem dL_law_305 : decode cL_law 305 = .ok (.iload 6, 2) := dk_21 6 (dk_at dksL_law_7 14 rfl rfl)
theorem dL_law_307 : decode cL_law 307 = .ok (.if_icmp .eq 5, 3) := dk_159 0 5 (dk_at dksL_law_7 16 rfl rfl)
theorem dL_law_310 : decode cL_law 310 = .ok (.iconst 0, 1) := dk_3 (dk_at dksL_law_7 19 rfl rfl)
theorem dL_law_311 : decode cL_law 311 = .ok (.ireturn, 1) := dk_172 (dk_at dksL_law_7 20 rfl rfl)
theorem dL_law_312 : decode cL_law 312 = .ok (.iload 6, 2) := dk_21 6 (dk_at dksL_law_7 21 rfl rfl)
theorem dL_law_314 : decode cL_law 314 = .ok (.ifCond .ne 15, 3) := dk_154 0 15 (dk_at dksL_law_8 0 rfl rfl)
theorem dL_law_317 : decode cL_law 317 = .ok (.aload_n 3, 1) := dk_45 (dk_at dksL_law_8 3 rfl rfl)
theorem dL_law_318 : decode cL_law 318 = .ok (.iconst 0, 1) := dk_3 (dk_at dksL_law_8 4 rfl rfl)
theorem dL_law_319 : decode cL_law 319 = .ok (.laload, 1) := dk_47 (dk_at dksL_law_8 5 rfl rfl)
theorem dL_law_320 : decode cL_law 320 = .ok (.iload 7, 2) := dk_21 7 (dk_at dksL_law_8 6 rfl rfl)
theorem dL_law_322 : decode cL_law 322 = .ok (.i2l, 1) := dk_133 (dk_at dksL_law_8 8 rfl rfl)
theorem dL_law_323 : decode cL_law 323 = .ok (.lcmp, 1) := dk_148 (dk_at dksL_law_8 9 rfl rfl)
theorem dL_law_324 : decode cL_law 324 = .ok (.ifCond .eq 5, 3) := dk_153 0 5 (dk_at dksL_law_8 10 rfl rfl)
theorem dL_law_327 : decode cL_law 327 = .ok (.iconst 0, 1) := dk_3 (dk_at dksL_law_8 13 rfl rfl)
theorem dL_law_328 : decode cL_law 328 = .ok (.ireturn, 1) := dk_172 (dk_at dksL_law_8 14 rfl rfl)
theorem dL_law_329 : decode cL_law 329 = .ok (.goto 1795, 3) := dk_167 7 3 (dk_at dksL_law_8 15 rfl rfl)
theorem dL_law_332 : decode cL_law 332 = .ok (.aload_n 1, 1) := dk_43 (dk_at dksL_law_8 18 rfl rfl)
theorem dL_law_333 : decode cL_law 333 = .ok (.aload_n 0, 1) := dk_42 (dk_at dksL_law_8 19 rfl rfl)
theorem dL_law_334 : decode cL_law 334 = .ok (.iload 5, 2) := dk_21 5 (dk_at dksL_law_8 20 rfl rfl)
theorem dL_law_336 : decode cL_law 336 = .ok (.iconst 1, 1) := dk_4 (dk_at dksL_law_8 22 rfl rfl)
theorem dL_law_337 : decode cL_law 337 = .ok (.iadd, 1) := dk_96 (dk_at dksL_law_8 23 rfl rfl)
theorem dL_law_338 : decode cL_law 338 = .ok (.iaload, 1) := dk_46 (dk_at dksL_law_9 0 rfl rfl)
theorem dL_law_339 : decode cL_law 339 = .ok (.aload_n 3, 1) := dk_45 (dk_at dksL_law_9 1 rfl rfl)
theorem dL_law_340 : decode cL_law 340 = .ok (.invokestatic 133, 3) := dk_184 0 133 (dk_at dksL_law_9 2 rfl rfl)
theorem dL_law_343 : decode cL_law 343 = .ok (.istore 6, 2) := dk_54 6 (dk_at dksL_law_9 5 rfl rfl)
theorem dL_law_345 : decode cL_law 345 = .ok (.aload_n 2, 1) := dk_44 (dk_at dksL_law_9 7 rfl rfl)
theorem dL_law_346 : decode cL_law 346 = .ok (.aload_n 0, 1) := dk_42 (dk_at dksL_law_9 8 rfl rfl)
theorem dL_law_347 : decode cL_law 347 = .ok (.iload 5, 2) := dk_21 5 (dk_at dksL_law_9 9 rfl rfl)
theorem dL_law_349 : decode cL_law 349 = .ok (.iconst 1, 1) := dk_4 (dk_at dksL_law_9 11 rfl rfl)
theorem dL_law_350 : decode cL_law 350 = .ok (.iadd, 1) := dk_96 (dk_at dksL_law_9 12 rfl rfl)
theorem dL_law_351 : decode cL_law 351 = .ok (.iaload, 1) := dk_46 (dk_at dksL_law_9 13 rfl rfl)
theorem dL_law_352 : decode cL_law 352 = .ok (.invokevirtual 136, 3) := dk_182 0 136 (dk_at dksL_law_9 14 rfl rfl)
theorem dL_law_355 : decode cL_law 355 = .ok (.istore 7, 2) := dk_54 7 (dk_at dksL_law_9 17 rfl rfl)
theorem dL_law_357 : decode cL_law 357 = .ok (.aload_n 2, 1) := dk_44 (dk_at dksL_law_9 19 rfl rfl)
theorem dL_law_358 : decode cL_law 358 = .ok (.invokevirtual 127, 3) := dk_182 0 127 (dk_at dksL_law_9 20 rfl rfl)
theorem dL_law_361 : decode cL_law 361 = .ok (.iload 6, 2) := dk_21 6 (dk_at dksL_law_10 0 rfl rfl)
theorem dL_law_363 : decode cL_law 363 = .ok (.if_icmp .eq 5, 3) := dk_159 0 5 (dk_at dksL_law_10 2 rfl rfl)
theorem dL_law_366 : decode cL_law 366 = .ok (.iconst 0, 1) := dk_3 (dk_at dksL_law_10 5 rfl rfl)
theorem dL_law_367 : decode cL_law 367 = .ok (.ireturn, 1) := dk_172 (dk_at dksL_law_10 6 rfl rfl)
theorem dL_law_368 : decode cL_law 368 = .ok (.iload 6, 2) := dk_21 6 (dk_at dksL_law_10 7 rfl rfl)
theorem dL_law_370 : decode cL_law 370 = .ok (.ifCond .ne 15, 3) := dk_154 0 15 (dk_at dksL_law_10 9 rfl rfl)
theorem dL_law_373 : decode cL_law 373 = .ok (.aload_n 3, 1) := dk_45 (dk_at dksL_law_10 12 rfl rfl)
theorem dL_law_374 : decode cL_law 374 = .ok (.iconst 0, 1) := dk_3 (dk_at dksL_law_10 13 rfl rfl)
theorem dL_law_375 : decode cL_law 375 = .ok (.laload, 1) := dk_47 (dk_at dksL_law_10 14 rfl rfl)
theorem dL_law_376 : decode cL_law 376 = .ok (.iload 7, 2) := dk_21 7 (dk_at dksL_law_10 15 rfl rfl)
theorem dL_law_378 : decode cL_law 378 = .ok (.i2l, 1) := dk_133 (dk_at dksL_law_10 17 rfl rfl)
theorem dL_law_379 : decode cL_law 379 = .ok (.lcmp, 1) := dk_148 (dk_at dksL_law_10 18 rfl rfl)
theorem dL_law_380 : decode cL_law 380 = .ok (.ifCond .eq 5, 3) := dk_153 0 5 (dk_at dksL_law_10 19 rfl rfl)
theorem dL_law_383 : decode cL_law 383 = .ok (.iconst 0, 1) := dk_3 (dk_at dksL_law_10 22 rfl rfl)
theorem dL_law_384 : decode cL_law 384 = .ok (.ireturn, 1) := dk_172 (dk_at dksL_law_10 23 rfl rfl)
theorem dL_law_385 : decode cL_law 385 = .ok (.goto 1739, 3) := dk_167 6 203 (dk_at dksL_law_11 0 rfl rfl)
theorem dL_law_388 : decode cL_law 388 = .ok (.aload_n 1, 1) := dk_43 (dk_at dksL_law_11 3 rfl rfl)
theorem dL_law_389 : decode cL_law 389 = .ok (.aload_n 0, 1) := dk_42 (dk_at dksL_law_11 4 rfl rfl)
theorem dL_law_390 : decode cL_law 390 = .ok (.iload 5, 2) := dk_21 5 (dk_at dksL_law_11 5 rfl rfl)
theorem dL_law_392 : decode cL_law 392 = .ok (.iconst 1, 1) := dk_4 (dk_at dksL_law_11 7 rfl rfl)
theorem dL_law_393 : decode cL_law 393 = .ok (.iadd, 1) := dk_96 (dk_at dksL_law_11 8 rfl rfl)
theorem dL_law_394 : decode cL_law 394 = .ok (.iaload, 1) := dk_46 (dk_at dksL_law_11 9 rfl rfl)
theorem dL_law_395 : decode cL_law 395 = .ok (.aload_n 0, 1) := dk_42 (dk_at dksL_law_11 10 rfl rfl)
theorem dL_law_396 : decode cL_law 396 = .ok (.iload 5, 2) := dk_21 5 (dk_at dksL_law_11 11 rfl rfl)
theorem dL_law_398 : decode cL_law 398 = .ok (.iconst 2, 1) := dk_5 (dk_at dksL_law_11 13 rfl rfl)
theorem dL_law_399 : decode cL_law 399 = .ok (.iadd, 1) := dk_96 (dk_at dksL_law_11 14 rfl rfl)
theorem dL_law_400 : decode cL_law 400 = .ok (.iaload, 1) := dk_46 (dk_at dksL_law_11 15 rfl rfl)
theorem dL_law_401 : decode cL_law 401 = .ok (.aload_n 3, 1) := dk_45 (dk_at dksL_law_11 16 rfl rfl)
theorem dL_law_402 : decode cL_law 402 = .ok (.invokestatic 137, 3) := dk_184 0 137 (dk_at dksL_law_11 17 rfl rfl)
theorem dL_law_405 : decode cL_law 405 = .ok (.istore 6, 2) := dk_54 6 (dk_at dksL_law_11 20 rfl rfl)
theorem dL_law_407 : decode cL_law 407 = .ok (.aload_n 2, 1) := dk_44 (dk_at dksL_law_11 22 rfl rfl)
theorem dL_law_408 : decode cL_law 408 = .ok (.aload_n 0, 1) := dk_42 (dk_at dksL_law_11 23 rfl rfl)
theorem dL_law_409 : decode cL_law 409 = .ok (.iload 5, 2) := dk_21 5 (dk_at dksL_law_12 0 rfl rfl)
theorem dL_law_411 : decode cL_law 411 = .ok (.iconst 1, 1) := dk_4 (dk_at dksL_law_12 2 rfl rfl)
theorem dL_law_412 : decode cL_law 412 = .ok (.iadd, 1) := dk_96 (dk_at dksL_law_12 3 rfl rfl)
theorem dL_law_413 : decode cL_law 413 = .ok (.iaload, 1) := dk_46 (dk_at dksL_law_12 4 rfl rfl)
theorem dL_law_414 : decode cL_law 414 = .ok (.aload_n 0, 1) := dk_42 (dk_at dksL_law_12 5 rfl rfl)
theorem dL_law_415 : decode cL_law 415 = .ok (.iload 5, 2) := dk_21 5 (dk_at dksL_law_12 6 rfl rfl)
theorem dL_law_417 : decode cL_law 417 = .ok (.iconst 2, 1) := dk_5 (dk_at dksL_law_12 8 rfl rfl)
theorem dL_law_418 : decode cL_law 418 = .ok (.iadd, 1) := dk_96 (dk_at dksL_law_12 9 rfl rfl)
theorem dL_law_419 : decode cL_law 419 = .ok (.iaload, 1) := dk_46 (dk_at dksL_law_12 10 rfl rfl)
theorem dL_law_420 : decode cL_law 420 = .ok (.invokevirtual 139, 3) := dk_182 0 139 (dk_at dksL_law_12 11 rfl rfl)
theorem dL_law_423 : decode cL_law 423 = .ok (.istore 7, 2) := dk_54 7 (dk_at dksL_law_12 14 rfl rfl)
theorem dL_law_425 : decode cL_law 425 = .ok (.aload_n 2, 1) := dk_44 (dk_at dksL_law_12 16 rfl rfl)
theorem dL_law_426 : decode cL_law 426 = .ok (.invokevirtual 127, 3) := dk_182 0 127 (dk_at dksL_law_12 17 rfl rfl)
theorem dL_law_429 : decode cL_law 429 = .ok (.iload 6, 2) := dk_21 6 (dk_at dksL_law_12 20 rfl rfl)
theorem dL_law_431 : decode cL_law 431 = .ok (.if_icmp .eq 5, 3) := dk_159 0 5 (dk_at dksL_law_13 0 rfl rfl)
theorem dL_law_434 : decode cL_law 434 = .ok (.iconst 0, 1) := dk_3 (dk_at dksL_law_13 3 rfl rfl)
theorem dL_law_435 : decode cL_law 435 = .ok (.ireturn, 1) := dk_172 (dk_at dksL_law_13 4 rfl rfl)
theorem dL_law_436 : decode cL_law 436 = .ok (.iload 6, 2) := dk_21 6 (dk_at dksL_law_13 5 rfl rfl)
theorem dL_law_438 : decode cL_law 438 = .ok (.ifCond .ne 15, 3) := dk_154 0 15 (dk_at dksL_law_13 7 rfl rfl)
theorem dL_law_441 : decode cL_law 441 = .ok (.aload_n 3, 1) := dk_45 (dk_at dksL_law_13 10 rfl rfl)
theorem dL_law_442 : decode cL_law 442 = .ok (.iconst 0, 1) := dk_3 (dk_at dksL_law_13 11 rfl rfl)
theorem dL_law_443 : decode cL_law 443 = .ok (.laload, 1) := dk_47 (dk_at dksL_law_13 12 rfl rfl)
theorem dL_law_444 : decode cL_law 444 = .ok (.iload 7, 2) := dk_21 7 (dk_at dksL_law_13 13 rfl rfl)
theorem dL_law_446 : decode cL_law 446 = .ok (.i2l, 1) := dk_133 (dk_at dksL_law_13 15 rfl rfl)
theorem dL_law_447 : decode cL_law 447 = .ok (.lcmp, 1) := dk_148 (dk_at dksL_law_13 16 rfl rfl)
theorem dL_law_448 : decode cL_law 448 = .ok (.ifCond .eq 5, 3) := dk_153 0 5 (dk_at dksL_law_13 17 rfl rfl)
theorem dL_law_451 : decode cL_law 451 = .ok (.iconst 0, 1) := dk_3 (dk_at dksL_law_13 20 rfl rfl)
theorem dL_law_452 : decode cL_law 452 = .ok (.ireturn, 1) := dk_172 (dk_at dksL_law_13 21 rfl rfl)
theorem dL_law_453 : decode cL_law 453 = .ok (.goto 1671, 3) := dk_167 6 135 (dk_at dksL_law_14 0 rfl rfl)
theorem dL_law_456 : decode cL_law 456 = .ok (.aload_n 1, 1) := dk_43 (dk_at dksL_law_14 3 rfl rfl)
theorem dL_law_457 : decode cL_law 457 = .ok (.aload_n 0, 1) := dk_42 (dk_at dksL_law_14 4 rfl rfl)
theorem dL_law_458 : decode cL_law 458 = .ok (.iload 5, 2) := dk_21 5 (dk_at dksL_law_14 5 rfl rfl)
theorem dL_law_460 : decode cL_law 460 = .ok (.iconst 1, 1) := dk_4 (dk_at dksL_law_14 7 rfl rfl)
theorem dL_law_461 : decode cL_law 461 = .ok (.iadd, 1) := dk_96 (dk_at dksL_law_14 8 rfl rfl)
theorem dL_law_462 : decode cL_law 462 = .ok (.iaload, 1) := dk_46 (dk_at dksL_law_14 9 rfl rfl)
theorem dL_law_463 : decode cL_law 463 = .ok (.aload_n 0, 1) := dk_42 (dk_at dksL_law_14 10 rfl rfl)
theorem dL_law_464 : decode cL_law 464 = .ok (.iload 5, 2) := dk_21 5 (dk_at dksL_law_14 11 rfl rfl)
theorem dL_law_466 : decode cL_law 466 = .ok (.iconst 2, 1) := dk_5 (dk_at dksL_law_14 13 rfl rfl)
theorem dL_law_467 : decode cL_law 467 = .ok (.iadd, 1) := dk_96 (dk_at dksL_law_14 14 rfl rfl)
theorem dL_law_468 : decode cL_law 468 = .ok (.iaload, 1) := dk_46 (dk_at dksL_law_14 15 rfl rfl)
theorem dL_law_469 : decode cL_law 469 = .ok (.aload_n 3, 1) := dk_45 (dk_at dksL_law_14 16 rfl rfl)
theorem dL_law_470 : decode cL_law 470 = .ok (.invokestatic 140, 3) := dk_184 0 140 (dk_at dksL_law_14 17 rfl rfl)
theorem dL_law_473 : decode cL_law 473 = .ok (.istore 6, 2) := dk_54 6 (dk_at dksL_law_14 20 rfl rfl)
theorem dL_law_475 : decode cL_law 475 = .ok (.aload_n 2, 1) := dk_44 (dk_at dksL_law_14 22 rfl rfl)
theorem dL_law_476 : decode cL_law 476 = .ok (.aload_n 0, 1) := dk_42 (dk_at dksL_law_14 23 rfl rfl)
theorem dL_law_477 : decode cL_law 477 = .ok (.iload 5, 2) := dk_21 5 (dk_at dksL_law_15 0 rfl rfl)
theorem dL_law_479 : decode cL_law 479 = .ok (.iconst 1, 1) := dk_4 (dk_at dksL_law_15 2 rfl rfl)
theorem dL_law_480 : decode cL_law 480 = .ok (.iadd, 1) := dk_96 (dk_at dksL_law_15 3 rfl rfl)
theorem dL_law_481 : decode cL_law 481 = .ok (.iaload, 1) := dk_46 (dk_at dksL_law_15 4 rfl rfl)
theorem dL_law_482 : decode cL_law 482 = .ok (.aload_n 0, 1) := dk_42 (dk_at dksL_law_15 5 rfl rfl)
theorem dL_law_483 : decode cL_law 483 = .ok (.iload 5, 2) := dk_21 5 (dk_at dksL_law_15 6 rfl rfl)
theorem dL_law_485 : decode cL_law 485 = .ok (.iconst 2, 1) := dk_5 (dk_at dksL_law_15 8 rfl rfl)
theorem dL_law_486 : decode cL_law 486 = .ok (.iadd, 1) := dk_96 (dk_at dksL_law_15 9 rfl rfl)
theorem dL_law_487 : decode cL_law 487 = .ok (.iaload, 1) := dk_46 (dk_at dksL_law_15 10 rfl rfl)
theorem dL_law_488 : decode cL_law 488 = .ok (.invokevirtual 142, 3) := dk_182 0 142 (dk_at dksL_law_15 11 rfl rfl)
theorem dL_law_491 : decode cL_law 491 = .ok (.istore 7, 2) := dk_54 7 (dk_at dksL_law_15 14 rfl rfl)
theorem dL_law_493 : decode cL_law 493 = .ok (.aload_n 2, 1) := dk_44 (dk_at dksL_law_15 16 rfl rfl)
theorem dL_law_494 : decode cL_law 494 = .ok (.invokevirtual 127, 3) := dk_182 0 127 (dk_at dksL_law_15 17 rfl rfl)
theorem dL_law_497 : decode cL_law 497 = .ok (.iload 6, 2) := dk_21 6 (dk_at dksL_law_15 20 rfl rfl)
theorem dL_law_499 : decode cL_law 499 = .ok (.if_icmp .eq 5, 3) := dk_159 0 5 (dk_at dksL_law_16 0 rfl rfl)
theorem dL_law_502 : decode cL_law 502 = .ok (.iconst 0, 1) := dk_3 (dk_at dksL_law_16 3 rfl rfl)
theorem dL_law_503 : decode cL_law 503 = .ok (.ireturn, 1) := dk_172 (dk_at dksL_law_16 4 rfl rfl)
theorem dL_law_504 : decode cL_law 504 = .ok (.iload 6, 2) := dk_21 6 (dk_at dksL_law_16 5 rfl rfl)
theorem dL_law_506 : decode cL_law 506 = .ok (.ifCond .ne 15, 3) := dk_154 0 15 (dk_at dksL_law_16 7 rfl rfl)
theorem dL_law_509 : decode cL_law 509 = .ok (.aload_n 3, 1) := dk_45 (dk_at dksL_law_16 10 rfl rfl)
theorem dL_law_510 : decode cL_law 510 = .ok (.iconst 0, 1) := dk_3 (dk_at dksL_law_16 11 rfl rfl)
theorem dL_law_511 : decode cL_law 511 = .ok (.laload, 1) := dk_47 (dk_at dksL_law_16 12 rfl rfl)
theorem dL_law_512 : decode cL_law 512 = .ok (.iload 7, 2) := dk_21 7 (dk_at dksL_law_16 13 rfl rfl)
theorem dL_law_514 : decode cL_law 514 = .ok (.i2l, 1) := dk_133 (dk_at dksL_law_16 15 rfl rfl)
theorem dL_law_515 : decode cL_law 515 = .ok (.lcmp, 1) := dk_148 (dk_at dksL_law_16 16 rfl rfl)
theorem dL_law_516 : decode cL_law 516 = .ok (.ifCond .eq 5, 3) := dk_153 0 5 (dk_at dksL_law_16 17 rfl rfl)
theorem dL_law_519 : decode cL_law 519 = .ok (.iconst 0, 1) := dk_3 (dk_at dksL_law_16 20 rfl rfl)
theorem dL_law_520 : decode cL_law 520 = .ok (.ireturn, 1) := dk_172 (dk_at dksL_law_16 21 rfl rfl)
theorem dL_law_521 : decode cL_law 521 = .ok (.goto 1603, 3) := dk_167 6 67 (dk_at dksL_law_17 0 rfl rfl)
theorem dL_law_524 : decode cL_law 524 = .ok (.aload_n 1, 1) := dk_43 (dk_at dksL_law_17 3 rfl rfl)
theorem dL_law_525 : decode cL_law 525 = .ok (.aload_n 0, 1) := dk_42 (dk_at dksL_law_17 4 rfl rfl)
theorem dL_law_526 : decode cL_law 526 = .ok (.iload 5, 2) := dk_21 5 (dk_at dksL_law_17 5 rfl rfl)
theorem dL_law_528 : decode cL_law 528 = .ok (.iconst 1, 1) := dk_4 (dk_at dksL_law_17 7 rfl rfl)
theorem dL_law_529 : decode cL_law 529 = .ok (.iadd, 1) := dk_96 (dk_at dksL_law_17 8 rfl rfl)
theorem dL_law_530 : decode cL_law 530 = .ok (.iaload, 1) := dk_46 (dk_at dksL_law_17 9 rfl rfl)
theorem dL_law_531 : decode cL_law 531 = .ok (.aload_n 0, 1) := dk_42 (dk_at dksL_law_17 10 rfl rfl)
theorem dL_law_532 : decode cL_law 532 = .ok (.iload 5, 2) := dk_21 5 (dk_at dksL_law_17 11 rfl rfl)
theorem dL_law_534 : decode cL_law 534 = .ok (.iconst 2, 1) := dk_5 (dk_at dksL_law_17 13 rfl rfl)
theorem dL_law_535 : decode cL_law 535 = .ok (.iadd, 1) := dk_96 (dk_at dksL_law_17 14 rfl rfl)
theorem dL_law_536 : decode cL_law 536 = .ok (.iaload, 1) := dk_46 (dk_at dksL_law_17 15 rfl rfl)
theorem dL_law_537 : decode cL_law 537 = .ok (.aload_n 3, 1) := dk_45 (dk_at dksL_law_17 16 rfl rfl)
theorem dL_law_538 : decode cL_law 538 = .ok (.invokestatic 143, 3) := dk_184 0 143 (dk_at dksL_law_17 17 rfl rfl)
theorem dL_law_541 : decode cL_law 541 = .ok (.istore 6, 2) := dk_54 6 (dk_at dksL_law_17 20 rfl rfl)
theorem dL_law_543 : decode cL_law 543 = .ok (.aload_n 2, 1) := dk_44 (dk_at dksL_law_17 22 rfl rfl)
theorem dL_law_544 : decode cL_law 544 = .ok (.aload_n 0, 1) := dk_42 (dk_at dksL_law_17 23 rfl rfl)
theorem dL_law_545 : decode cL_law 545 = .ok (.iload 5, 2) := dk_21 5 (dk_at dksL_law_18 0 rfl rfl)
theorem dL_law_547 : decode cL_law 547 = .ok (.iconst 1, 1) := dk_4 (dk_at dksL_law_18 2 rfl rfl)
theorem dL_law_548 : decode cL_law 548 = .ok (.iadd, 1) := dk_96 (dk_at dksL_law_18 3 rfl rfl)
theorem dL_law_549 : decode cL_law 549 = .ok (.iaload, 1) := dk_46 (dk_at dksL_law_18 4 rfl rfl)
theorem dL_law_550 : decode cL_law 550 = .ok (.aload_n 0, 1) := dk_42 (dk_at dksL_law_18 5 rfl rfl)
theorem dL_law_551 : decode cL_law 551 = .ok (.iload 5, 2) := dk_21 5 (dk_at dksL_law_18 6 rfl rfl)
theorem dL_law_553 : decode cL_law 553 = .ok (.iconst 2, 1) := dk_5 (dk_at dksL_law_18 8 rfl rfl)
theorem dL_law_554 : decode cL_law 554 = .ok (.iadd, 1) := dk_96 (dk_at dksL_law_18 9 rfl rfl)
theorem dL_law_555 : decode cL_law 555 = .ok (.iaload, 1) := dk_46 (dk_at dksL_law_18 10 rfl rfl)
theorem dL_law_556 : decode cL_law 556 = .ok (.invokevirtual 145, 3) := dk_182 0 145 (dk_at dksL_law_18 11 rfl rfl)
theorem dL_law_559 : decode cL_law 559 = .ok (.istore 7, 2) := dk_54 7 (dk_at dksL_law_18 14 rfl rfl)
theorem dL_law_561 : decode cL_law 561 = .ok (.aload_n 2, 1) := dk_44 (dk_at dksL_law_18 16 rfl rfl)
theorem dL_law_562 : decode cL_law 562 = .ok (.invokevirtual 127, 3) := dk_182 0 127 (dk_at dksL_law_18 17 rfl rfl)
theorem dL_law_565 : decode cL_law 565 = .ok (.iload 6, 2) := dk_21 6 (dk_at dksL_law_18 20 rfl rfl)
theorem dL_law_567 : decode cL_law 567 = .ok (.if_icmp .eq 5, 3) := dk_159 0 5 (dk_at dksL_law_19 0 rfl rfl)
theorem dL_law_570 : decode cL_law 570 = .ok (.iconst 0, 1) := dk_3 (dk_at dksL_law_19 3 rfl rfl)
theorem dL_law_571 : decode cL_law 571 = .ok (.ireturn, 1) := dk_172 (dk_at dksL_law_19 4 rfl rfl)
theorem dL_law_572 : decode cL_law 572 = .ok (.iload 6, 2) := dk_21 6 (dk_at dksL_law_19 5 rfl rfl)
theorem dL_law_574 : decode cL_law 574 = .ok (.ifCond .ne 15, 3) := dk_154 0 15 (dk_at dksL_law_19 7 rfl rfl)
theorem dL_law_577 : decode cL_law 577 = .ok (.aload_n 3, 1) := dk_45 (dk_at dksL_law_19 10 rfl rfl)
theorem dL_law_578 : decode cL_law 578 = .ok (.iconst 0, 1) := dk_3 (dk_at dksL_law_19 11 rfl rfl)
theorem dL_law_579 : decode cL_law 579 = .ok (.laload, 1) := dk_47 (dk_at dksL_law_19 12 rfl rfl)
theorem dL_law_580 : decode cL_law 580 = .ok (.iload 7, 2) := dk_21 7 (dk_at dksL_law_19 13 rfl rfl)
theorem dL_law_582 : decode cL_law 582 = .ok (.i2l, 1) := dk_133 (dk_at dksL_law_19 15 rfl rfl)
theorem dL_law_583 : decode cL_law 583 = .ok (.lcmp, 1) := dk_148 (dk_at dksL_law_19 16 rfl rfl)
theorem dL_law_584 : decode cL_law 584 = .ok (.ifCond .eq 5, 3) := dk_153 0 5 (dk_at dksL_law_19 17 rfl rfl)
theorem dL_law_587 : decode cL_law 587 = .ok (.iconst 0, 1) := dk_3 (dk_at dksL_law_19 20 rfl rfl)
theorem dL_law_588 : decode cL_law 588 = .ok (.ireturn, 1) := dk_172 (dk_at dksL_law_19 21 rfl rfl)
theorem dL_law_589 : decode cL_law 589 = .ok (.goto 1535, 3) := dk_167 5 255 (dk_at dksL_law_20 0 rfl rfl)
theorem dL_law_592 : decode cL_law 592 = .ok (.aload_n 1, 1) := dk_43 (dk_at dksL_law_20 3 rfl rfl)
theorem dL_law_593 : decode cL_law 593 = .ok (.aload_n 0, 1) := dk_42 (dk_at dksL_law_20 4 rfl rfl)
theorem dL_law_594 : decode cL_law 594 = .ok (.iload 5, 2) := dk_21 5 (dk_at dksL_law_20 5 rfl rfl)
theorem dL_law_596 : decode cL_law 596 = .ok (.iconst 1, 1) := dk_4 (dk_at dksL_law_20 7 rfl rfl)
theorem dL_law_597 : decode cL_law 597 = .ok (.iadd, 1) := dk_96 (dk_at dksL_law_20 8 rfl rfl)
theorem dL_law_598 : decode cL_law 598 = .ok (.iaload, 1) := dk_46 (dk_at dksL_law_20 9 rfl rfl)
theorem dL_law_599 : decode cL_law 599 = .ok (.aload 4, 2) := dk_25 4 (dk_at dksL_law_20 10 rfl rfl)
theorem dL_law_601 : decode cL_law 601 = .ok (.invokestatic 146, 3) := dk_184 0 146 (dk_at dksL_law_20 12 rfl rfl)
theorem dL_law_604 : decode cL_law 604 = .ok (.istore 6, 2) := dk_54 6 (dk_at dksL_law_20 15 rfl rfl)
theorem dL_law_606 : decode cL_law 606 = .ok (.aload_n 2, 1) := dk_44 (dk_at dksL_law_20 17 rfl rfl)
theorem dL_law_607 : decode cL_law 607 = .ok (.aload_n 0, 1) := dk_42 (dk_at dksL_law_20 18 rfl rfl)
theorem dL_law_608 : decode cL_law 608 = .ok (.iload 5, 2) := dk_21 5 (dk_at dksL_law_20 19 rfl rfl)
theorem dL_law_610 : decode cL_law 610 = .ok (.iconst 1, 1) := dk_4 (dk_at dksL_law_20 21 rfl rfl)
theorem dL_law_611 : decode cL_law 611 = .ok (.iadd, 1) := dk_96 (dk_at dksL_law_20 22 rfl rfl)
theorem dL_law_612 : decode cL_law 612 = .ok (.iaload, 1) := dk_46 (dk_at dksL_law_20 23 rfl rfl)
theorem dL_law_613 : decode cL_law 613 = .ok (.invokevirtual 149, 3) := dk_182 0 149 (dk_at dksL_law_21 0 rfl rfl)
theorem dL_law_616 : decode cL_law 616 = .ok (.fstore 7, 2) := dk_56 7 (dk_at dksL_law_21 3 rfl rfl)
theorem dL_law_618 : decode cL_law 618 = .ok (.aload_n 2, 1) := dk_44 (dk_at dksL_law_21 5 rfl rfl)
theorem dL_law_619 : decode cL_law 619 = .ok (.invokevirtual 127, 3) := dk_182 0 127 (dk_at dksL_law_21 6 rfl rfl)
theorem dL_law_622 : decode cL_law 622 = .ok (.iload 6, 2) := dk_21 6 (dk_at dksL_law_21 9 rfl rfl)
theorem dL_law_624 : decode cL_law 624 = .ok (.if_icmp .eq 5, 3) := dk_159 0 5 (dk_at dksL_law_21 11 rfl rfl)
theorem dL_law_627 : decode cL_law 627 = .ok (.iconst 0, 1) := dk_3 (dk_at dksL_law_21 14 rfl rfl)
theorem dL_law_628 : decode cL_law 628 = .ok (.ireturn, 1) := dk_172 (dk_at dksL_law_21 15 rfl rfl)
theorem dL_law_629 : decode cL_law 629 = .ok (.iload 6, 2) := dk_21 6 (dk_at dksL_law_21 16 rfl rfl)
theorem dL_law_631 : decode cL_law 631 = .ok (.ifCond .ne 36, 3) := dk_154 0 36 (dk_at dksL_law_21 18 rfl rfl)
theorem dL_law_634 : decode cL_law 634 = .ok (.aload 4, 2) := dk_25 4 (dk_at dksL_law_21 21 rfl rfl)
theorem dL_law_636 : decode cL_law 636 = .ok (.iconst 0, 1) := dk_3 (dk_at dksL_law_21 23 rfl rfl)
theorem dL_law_637 : decode cL_law 637 = .ok (.daload, 1) := dk_49 (dk_at dksL_law_22 0 rfl rfl)
theorem dL_law_638 : decode cL_law 638 = .ok (.fload 7, 2) := dk_23 7 (dk_at dksL_law_22 1 rfl rfl)
theorem dL_law_640 : decode cL_law 640 = .ok (.f2d, 1) := dk_141 (dk_at dksL_law_22 3 rfl rfl)
theorem dL_law_641 : decode cL_law 641 = .ok (.dcmp .l, 1) := dk_151 (dk_at dksL_law_22 4 rfl rfl)
theorem dL_law_642 : decode cL_law 642 = .ok (.ifCond .eq 25, 3) := dk_153 0 25 (dk_at dksL_law_22 5 rfl rfl)
theorem dL_law_645 : decode cL_law 645 = .ok (.aload 4, 2) := dk_25 4 (dk_at dksL_law_22 8 rfl rfl)
theorem dL_law_647 : decode cL_law 647 = .ok (.iconst 0, 1) := dk_3 (dk_at dksL_law_22 10 rfl rfl)
theorem dL_law_648 : decode cL_law 648 = .ok (.daload, 1) := dk_49 (dk_at dksL_law_22 11 rfl rfl)
theorem dL_law_649 : decode cL_law 649 = .ok (.aload 4, 2) := dk_25 4 (dk_at dksL_law_22 12 rfl rfl)
theorem dL_law_651 : decode cL_law 651 = .ok (.iconst 0, 1) := dk_3 (dk_at dksL_law_22 14 rfl rfl)
theorem dL_law_652 : decode cL_law 652 = .ok (.daload, 1) := dk_49 (dk_at dksL_law_22 15 rfl rfl)
theorem dL_law_653 : decode cL_law 653 = .ok (.dcmp .l, 1) := dk_151 (dk_at dksL_law_22 16 rfl rfl)
theorem dL_law_654 : decode cL_law 654 = .ok (.ifCond .eq 11, 3) := dk_153 0 11 (dk_at dksL_law_22 17 rfl rfl)
theorem dL_law_657 : decode cL_law 657 = .ok (.fload 7, 2) := dk_23 7 (dk_at dksL_law_22 20 rfl rfl)
theorem dL_law_659 : decode cL_law 659 = .ok (.fload 7, 2) := dk_23 7 (dk_at dksL_law_22 22 rfl rfl)
theorem dL_law_661 : decode cL_law 661 = .ok (.fcmp .l, 1) := dk_149 (dk_at dksL_law_23 0 rfl rfl)
theorem dL_law_662 : decode cL_law 662 = .ok (.ifCond .ne 5, 3) := dk_154 0 5 (dk_at dksL_law_23 1 rfl rfl)
theorem dL_law_665 : decode cL_law 665 = .ok (.iconst 0, 1) := dk_3 (dk_at dksL_law_23 4 rfl rfl)
theorem dL_law_666 : decode cL_law 666 = .ok (.ireturn, 1) := dk_172 (dk_at dksL_law_23 5 rfl rfl)
theorem dL_law_667 : decode cL_law 667 = .ok (.goto 1457, 3) := dk_167 5 177 (dk_at dksL_law_23 6 rfl rfl)
theorem dL_law_670 : decode cL_law 670 = .ok (.aload_n 1, 1) := dk_43 (dk_at dksL_law_23 9 rfl rfl)
theorem dL_law_671 : decode cL_law 671 = .ok (.aload_n 0, 1) := dk_42 (dk_at dksL_law_23 10 rfl rfl)
theorem dL_law_672 : decode cL_law 672 = .ok (.iload 5, 2) := dk_21 5 (dk_at dksL_law_23 11 rfl rfl)
theorem dL_law_674 : decode cL_law 674 = .ok (.iconst 1, 1) := dk_4 (dk_at dksL_law_23 13 rfl rfl)
theorem dL_law_675 : decode cL_law 675 = .ok (.iadd, 1) := dk_96 (dk_at dksL_law_23 14 rfl rfl)
theorem dL_law_676 : decode cL_law 676 = .ok (.iaload, 1) := dk_46 (dk_at dksL_law_23 15 rfl rfl)
theorem dL_law_677 : decode cL_law 677 = .ok (.aload_n 3, 1) := dk_45 (dk_at dksL_law_23 16 rfl rfl)
theorem dL_law_678 : decode cL_law 678 = .ok (.invokestatic 150, 3) := dk_184 0 150 (dk_at dksL_law_23 17 rfl rfl)
theorem dL_law_681 : decode cL_law 681 = .ok (.istore 6, 2) := dk_54 6 (dk_at dksL_law_23 20 rfl rfl)
theorem dL_law_683 : decode cL_law 683 = .ok (.aload_n 2, 1) := dk_44 (dk_at dksL_law_23 22 rfl rfl)
theorem dL_law_684 : decode cL_law 684 = .ok (.aload_n 0, 1) := dk_42 (dk_at dksL_law_23 23 rfl rfl)
theorem dL_law_685 : decode cL_law 685 = .ok (.iload 5, 2) := dk_21 5 (dk_at dksL_law_24 0 rfl rfl)
theorem dL_law_687 : decode cL_law 687 = .ok (.iconst 1, 1) := dk_4 (dk_at dksL_law_24 2 rfl rfl)
theorem dL_law_688 : decode cL_law 688 = .ok (.iadd, 1) := dk_96 (dk_at dksL_law_24 3 rfl rfl)
theorem dL_law_689 : decode cL_law 689 = .ok (.iaload, 1) := dk_46 (dk_at dksL_law_24 4 rfl rfl)
theorem dL_law_690 : decode cL_law 690 = .ok (.invokevirtual 152, 3) := dk_182 0 152 (dk_at dksL_law_24 5 rfl rfl)
theorem dL_law_693 : decode cL_law 693 = .ok (.istore 7, 2) := dk_54 7 (dk_at dksL_law_24 8 rfl rfl)
theorem dL_law_695 : decode cL_law 695 = .ok (.aload_n 2, 1) := dk_44 (dk_at dksL_law_24 10 rfl rfl)
theorem dL_law_696 : decode cL_law 696 = .ok (.invokevirtual 127, 3) := dk_182 0 127 (dk_at dksL_law_24 11 rfl rfl)
theorem dL_law_699 : decode cL_law 699 = .ok (.iload 6, 2) := dk_21 6 (dk_at dksL_law_24 14 rfl rfl)
theorem dL_law_701 : decode cL_law 701 = .ok (.if_icmp .eq 5, 3) := dk_159 0 5 (dk_at dksL_law_24 16 rfl rfl)
theorem dL_law_704 : decode cL_law 704 = .ok (.iconst 0, 1) := dk_3 (dk_at dksL_law_24 19 rfl rfl)
theorem dL_law_705 : decode cL_law 705 = .ok (.ireturn, 1) := dk_172 (dk_at dksL_law_24 20 rfl rfl)
theorem dL_law_706 : decode cL_law 706 = .ok (.iload 6, 2) := dk_21 6 (dk_at dksL_law_24 21 rfl rfl)
theorem dL_law_708 : decode cL_law 708 = .ok (.ifCond .ne 15, 3) := dk_154 0 15 (dk_at dksL_law_25 0 rfl rfl)
theorem dL_law_711 : decode cL_law 711 = .ok (.aload_n 3, 1) := dk_45 (dk_at dksL_law_25 3 rfl rfl)
theorem dL_law_712 : decode cL_law 712 = .ok (.iconst 0, 1) := dk_3 (dk_at dksL_law_25 4 rfl rfl)
theorem dL_law_713 : decode cL_law 713 = .ok (.laload, 1) := dk_47 (dk_at dksL_law_25 5 rfl rfl)
theorem dL_law_714 : decode cL_law 714 = .ok (.iload 7, 2) := dk_21 7 (dk_at dksL_law_25 6 rfl rfl)
theorem dL_law_716 : decode cL_law 716 = .ok (.i2l, 1) := dk_133 (dk_at dksL_law_25 8 rfl rfl)
theorem dL_law_717 : decode cL_law 717 = .ok (.lcmp, 1) := dk_148 (dk_at dksL_law_25 9 rfl rfl)
theorem dL_law_718 : decode cL_law 718 = .ok (.ifCond .eq 5, 3) := dk_153 0 5 (dk_at dksL_law_25 10 rfl rfl)
theorem dL_law_721 : decode cL_law 721 = .ok (.iconst 0, 1) := dk_3 (dk_at dksL_law_25 13 rfl rfl)
theorem dL_law_722 : decode cL_law 722 = .ok (.ireturn, 1) := dk_172 (dk_at dksL_law_25 14 rfl rfl)
theorem dL_law_723 : decode cL_law 723 = .ok (.goto 1401, 3) := dk_167 5 121 (dk_at dksL_law_25 15 rfl rfl)
theorem dL_law_726 : decode cL_law 726 = .ok (.aload_n 1, 1) := dk_43 (dk_at dksL_law_25 18 rfl rfl)
theorem dL_law_727 : decode cL_law 727 = .ok (.aload_n 0, 1) := dk_42 (dk_at dksL_law_25 19 rfl rfl)
theorem dL_law_728 : decode cL_law 728 = .ok (.iload 5, 2) := dk_21 5 (dk_at dksL_law_25 20 rfl rfl)
theorem dL_law_730 : decode cL_law 730 = .ok (.iconst 1, 1) := dk_4 (dk_at dksL_law_25 22 rfl rfl)
theorem dL_law_731 : decode cL_law 731 = .ok (.iadd, 1) := dk_96 (dk_at dksL_law_25 23 rfl rfl)
theorem dL_law_732 : decode cL_law 732 = .ok (.iaload, 1) := dk_46 (dk_at dksL_law_26 0 rfl rfl)
theorem dL_law_733 : decode cL_law 733 = .ok (.aload_n 0, 1) := dk_42 (dk_at dksL_law_26 1 rfl rfl)
theorem dL_law_734 : decode cL_law 734 = .ok (.iload 5, 2) := dk_21 5 (dk_at dksL_law_26 2 rfl rfl)
theorem dL_law_736 : decode cL_law 736 = .ok (.iconst 2, 1) := dk_5 (dk_at dksL_law_26 4 rfl rfl)
theorem dL_law_737 : decode cL_law 737 = .ok (.iadd, 1) := dk_96 (dk_at dksL_law_26 5 rfl rfl)
theorem dL_law_738 : decode cL_law 738 = .ok (.iaload, 1) := dk_46 (dk_at dksL_law_26 6 rfl rfl)
theorem dL_law_739 : decode cL_law 739 = .ok (.aload_n 0, 1) := dk_42 (dk_at dksL_law_26 7 rfl rfl)
theorem dL_law_740 : decode cL_law 740 = .ok (.iload 5, 2) := dk_21 5 (dk_at dksL_law_26 8 rfl rfl)
theorem dL_law_742 : decode cL_law 742 = .ok (.iconst 3, 1) := dk_6 (dk_at dksL_law_26 10 rfl rfl)
theorem dL_law_743 : decode cL_law 743 = .ok (.iadd, 1) := dk_96 (dk_at dksL_law_26 11 rfl rfl)
theorem dL_law_744 : decode cL_law 744 = .ok (.iaload, 1) := dk_46 (dk_at dksL_law_26 12 rfl rfl)
theorem dL_law_745 : decode cL_law 745 = .ok (.aload_n 3, 1) := dk_45 (dk_at dksL_law_26 13 rfl rfl)
theorem dL_law_746 : decode cL_law 746 = .ok (.invokestatic 153, 3) := dk_184 0 153 (dk_at dksL_law_26 14 rfl rfl)
theorem dL_law_749 : decode cL_law 749 = .ok (.istore 6, 2) := dk_54 6 (dk_at dksL_law_26 17 rfl rfl)
theorem dL_law_751 : decode cL_law 751 = .ok (.aload_n 2, 1) := dk_44 (dk_at dksL_law_26 19 rfl rfl)
theorem dL_law_752 : decode cL_law 752 = .ok (.aload_n 0, 1) := dk_42 (dk_at dksL_law_26 20 rfl rfl)
theorem dL_law_753 : decode cL_law 753 = .ok (.iload 5, 2) := dk_21 5 (dk_at dksL_law_26 21 rfl rfl)
theorem dL_law_755 : decode cL_law 755 = .ok (.iconst 1, 1) := dk_4 (dk_at dksL_law_26 23 rfl rfl)
theorem dL_law_756 : decode cL_law 756 = .ok (.iadd, 1) := dk_96 (dk_at dksL_law_27 0 rfl rfl)
theorem dL_law_757 : decode cL_law 757 = .ok (.iaload, 1) := dk_46 (dk_at dksL_law_27 1 rfl rfl)
theorem dL_law_758 : decode cL_law 758 = .ok (.aload_n 0, 1) := dk_42 (dk_at dksL_law_27 2 rfl rfl)
theorem dL_law_759 : decode cL_law 759 = .ok (.iload 5, 2) := dk_21 5 (dk_at dksL_law_27 3 rfl rfl)
theorem dL_law_761 : decode cL_law 761 = .ok (.iconst 2, 1) := dk_5 (dk_at dksL_law_27 5 rfl rfl)
theorem dL_law_762 : decode cL_law 762 = .ok (.iadd, 1) := dk_96 (dk_at dksL_law_27 6 rfl rfl)
theorem dL_law_763 : decode cL_law 763 = .ok (.iaload, 1) := dk_46 (dk_at dksL_law_27 7 rfl rfl)
theorem dL_law_764 : decode cL_law 764 = .ok (.aload_n 0, 1) := dk_42 (dk_at dksL_law_27 8 rfl rfl)
theorem dL_law_765 : decode cL_law 765 = .ok (.iload 5, 2) := dk_21 5 (dk_at dksL_law_27 9 rfl rfl)
theorem dL_law_767 : decode cL_law 767 = .ok (.iconst 3, 1) := dk_6 (dk_at dksL_law_27 11 rfl rfl)
theorem dL_law_768 : decode cL_law 768 = .ok (.iadd, 1) := dk_96 (dk_at dksL_law_27 12 rfl rfl)
theorem dL_law_769 : decode cL_law 769 = .ok (.iaload, 1) := dk_46 (dk_at dksL_law_27 13 rfl rfl)
theorem dL_law_770 : decode cL_law 770 = .ok (.invokevirtual 156, 3) := dk_182 0 156 (dk_at dksL_law_27 14 rfl rfl)
theorem dL_law_773 : decode cL_law 773 = .ok (.istore 7, 2) := dk_54 7 (dk_at dksL_law_27 17 rfl rfl)
theorem dL_law_775 : decode cL_law 775 = .ok (.aload_n 2, 1) := dk_44 (dk_at dksL_law_27 19 rfl rfl)
theorem dL_law_776 : decode cL_law 776 = .ok (.invokevirtual 127, 3) := dk_182 0 127 (dk_at dksL_law_27 20 rfl rfl)
theorem dL_law_779 : decode cL_law 779 = .ok (.iload 6, 2) := dk_21 6 (dk_at dksL_law_28 0 rfl rfl)
theorem dL_law_781 : decode cL_law 781 = .ok (.if_icmp .eq 5, 3) := dk_159 0 5 (dk_at dksL_law_28 2 rfl rfl)
theorem dL_law_784 : decode cL_law 784 = .ok (.iconst 0, 1) := dk_3 (dk_at dksL_law_28 5 rfl rfl)
theorem dL_law_785 : decode cL_law 785 = .ok (.ireturn, 1) := dk_172 (dk_at dksL_law_28 6 rfl rfl)
theorem dL_law_786 : decode cL_law 786 = .ok (.iload 6, 2) := dk_21 6 (dk_at dksL_law_28 7 rfl rfl)
theorem dL_law_788 : decode cL_law 788 = .ok (.ifCond .ne 15, 3) := dk_154 0 15 (dk_at dksL_law_28 9 rfl rfl)
theorem dL_law_791 : decode cL_law 791 = .ok (.aload_n 3, 1) := dk_45 (dk_at dksL_law_28 12 rfl rfl)
theorem dL_law_792 : decode cL_law 792 = .ok (.iconst 0, 1) := dk_3 (dk_at dksL_law_28 13 rfl rfl)
theorem dL_law_793 : decode cL_law 793 = .ok (.laload, 1) := dk_47 (dk_at dksL_law_28 14 rfl rfl)
theorem dL_law_794 : decode cL_law 794 = .ok (.iload 7, 2) := dk_21 7 (dk_at dksL_law_28 15 rfl rfl)
theorem dL_law_796 : decode cL_law 796 = .ok (.i2l, 1) := dk_133 (dk_at dksL_law_28 17 rfl rfl)
theorem dL_law_797 : decode cL_law 797 = .ok (.lcmp, 1) := dk_148 (dk_at dksL_law_28 18 rfl rfl)
theorem dL_law_798 : decode cL_law 798 = .ok (.ifCond .eq 5, 3) := dk_153 0 5 (dk_at dksL_law_28 19 rfl rfl)
theorem dL_law_801 : decode cL_law 801 = .ok (.iconst 0, 1) := dk_3 (dk_at dksL_law_28 22 rfl rfl)
theorem dL_law_802 : decode cL_law 802 = .ok (.ireturn, 1) := dk_172 (dk_at dksL_law_28 23 rfl rfl)
theorem dL_law_803 : decode cL_law 803 = .ok (.goto 1321, 3) := dk_167 5 41 (dk_at dksL_law_29 0 rfl rfl)
theorem dL_law_806 : decode cL_law 806 = .ok (.aload_n 1, 1) := dk_43 (dk_at dksL_law_29 3 rfl rfl)
theorem dL_law_807 : decode cL_law 807 = .ok (.aload_n 0, 1) := dk_42 (dk_at dksL_law_29 4 rfl rfl)
theorem dL_law_808 : decode cL_law 808 = .ok (.iload 5, 2) := dk_21 5 (dk_at dksL_law_29 5 rfl rfl)
theorem dL_law_810 : decode cL_law 810 = .ok (.iconst 1, 1) := dk_4 (dk_at dksL_law_29 7 rfl rfl)
theorem dL_law_811 : decode cL_law 811 = .ok (.iadd, 1) := dk_96 (dk_at dksL_law_29 8 rfl rfl)
theorem dL_law_812 : decode cL_law 812 = .ok (.iaload, 1) := dk_46 (dk_at dksL_law_29 9 rfl rfl)
theorem dL_law_813 : decode cL_law 813 = .ok (.aload_n 0, 1) := dk_42 (dk_at dksL_law_29 10 rfl rfl)
theorem dL_law_814 : decode cL_law 814 = .ok (.iload 5, 2) := dk_21 5 (dk_at dksL_law_29 11 rfl rfl)
theorem dL_law_816 : decode cL_law 816 = .ok (.iconst 2, 1) := dk_5 (dk_at dksL_law_29 13 rfl rfl)
theorem dL_law_817 : decode cL_law 817 = .ok (.iadd, 1) := dk_96 (dk_at dksL_law_29 14 rfl rfl)
theorem dL_law_818 : decode cL_law 818 = .ok (.iaload, 1) := dk_46 (dk_at dksL_law_29 15 rfl rfl)
theorem dL_law_819 : decode cL_law 819 = .ok (.aload_n 0, 1) := dk_42 (dk_at dksL_law_29 16 rfl rfl)
theorem dL_law_820 : decode cL_law 820 = .ok (.iload 5, 2) := dk_21 5 (dk_at dksL_law_29 17 rfl rfl)
theorem dL_law_822 : decode cL_law 822 = .ok (.iconst 3, 1) := dk_6 (dk_at dksL_law_29 19 rfl rfl)
theorem dL_law_823 : decode cL_law 823 = .ok (.iadd, 1) := dk_96 (dk_at dksL_law_29 20 rfl rfl)
theorem dL_law_824 : decode cL_law 824 = .ok (.iaload, 1) := dk_46 (dk_at dksL_law_29 21 rfl rfl)
theorem dL_law_825 : decode cL_law 825 = .ok (.aload_n 0, 1) := dk_42 (dk_at dksL_law_29 22 rfl rfl)
theorem dL_law_826 : decode cL_law 826 = .ok (.iload 5, 2) := dk_21 5 (dk_at dksL_law_30 0 rfl rfl)
theorem dL_law_828 : decode cL_law 828 = .ok (.iconst 4, 1) := dk_7 (dk_at dksL_law_30 2 rfl rfl)
theorem dL_law_829 : decode cL_law 829 = .ok (.iadd, 1) := dk_96 (dk_at dksL_law_30 3 rfl rfl)
theorem dL_law_830 : decode cL_law 830 = .ok (.iaload, 1) := dk_46 (dk_at dksL_law_30 4 rfl rfl)
theorem dL_law_831 : decode cL_law 831 = .ok (.aload_n 3, 1) := dk_45 (dk_at dksL_law_30 5 rfl rfl)
theorem dL_law_832 : decode cL_law 832 = .ok (.invokestatic 157, 3) := dk_184 0 157 (dk_at dksL_law_30 6 rfl rfl)
theorem dL_law_835 : decode cL_law 835 = .ok (.istore 6, 2) := dk_54 6 (dk_at dksL_law_30 9 rfl rfl)
theorem dL_law_837 : decode cL_law 837 = .ok (.aload_n 2, 1) := dk_44 (dk_at dksL_law_30 11 rfl rfl)
theorem dL_law_838 : decode cL_law 838 = .ok (.aload_n 0, 1) := dk_42 (dk_at dksL_law_30 12 rfl rfl)
theorem dL_law_839 : decode cL_law 839 = .ok (.iload 5, 2) := dk_21 5 (dk_at dksL_law_30 13 rfl rfl)
theorem dL_law_841 : decode cL_law 841 = .ok (.iconst 1, 1) := dk_4 (dk_at dksL_law_30 15 rfl rfl)
theorem dL_law_842 : decode cL_law 842 = .ok (.iadd, 1) := dk_96 (dk_at dksL_law_30 16 rfl rfl)
theorem dL_law_843 : decode cL_law 843 = .ok (.iaload, 1) := dk_46 (dk_at dksL_law_30 17 rfl rfl)
theorem dL_law_844 : decode cL_law 844 = .ok (.aload_n 0, 1) := dk_42 (dk_at dksL_law_30 18 rfl rfl)
theorem dL_law_845 : decode cL_law 845 = .ok (.iload 5, 2) := dk_21 5 (dk_at dksL_law_30 19 rfl rfl)
theorem dL_law_847 : decode cL_law 847 = .ok (.iconst 2, 1) := dk_5 (dk_at dksL_law_30 21 rfl rfl)
theorem dL_law_848 : decode cL_law 848 = .ok (.iadd, 1) := dk_96 (dk_at dksL_law_30 22 rfl rfl)
theorem dL_law_849 : decode cL_law 849 = .ok (.iaload, 1) := dk_46 (dk_at dksL_law_30 23 rfl rfl)
theorem dL_law_850 : decode cL_law 850 = .ok (.aload_n 0, 1) := dk_42 (dk_at dksL_law_31 0 rfl rfl)
theorem dL_law_851 : decode cL_law 851 = .ok (.iload 5, 2) := dk_21 5 (dk_at dksL_law_31 1 rfl rfl)
theorem dL_law_853 : decode cL_law 853 = .ok (.iconst 3, 1) := dk_6 (dk_at dksL_law_31 3 rfl rfl)
theorem dL_law_854 : decode cL_law 854 = .ok (.iadd, 1) := dk_96 (dk_at dksL_law_31 4 rfl rfl)
theorem dL_law_855 : decode cL_law 855 = .ok (.iaload, 1) := dk_46 (dk_at dksL_law_31 5 rfl rfl)
theorem dL_law_856 : decode cL_law 856 = .ok (.aload_n 0, 1) := dk_42 (dk_at dksL_law_31 6 rfl rfl)
theorem dL_law_857 : decode cL_law 857 = .ok (.iload 5, 2) := dk_21 5 (dk_at dksL_law_31 7 rfl rfl)
theorem dL_law_859 : decode cL_law 859 = .ok (.iconst 4, 1) := dk_7 (dk_at dksL_law_31 9 rfl rfl)
theorem dL_law_860 : decode cL_law 860 = .ok (.iadd, 1) := dk_96 (dk_at dksL_law_31 10 rfl rfl)
theorem dL_law_861 : decode cL_law 861 = .ok (.iaload, 1) := dk_46 (dk_at dksL_law_31 11 rfl rfl)
theorem dL_law_862 : decode cL_law 862 = .ok (.invokevirtual 160, 3) := dk_182 0 160 (dk_at dksL_law_31 12 rfl rfl)
theorem dL_law_865 : decode cL_law 865 = .ok (.istore 7, 2) := dk_54 7 (dk_at dksL_law_31 15 rfl rfl)
theorem dL_law_867 : decode cL_law 867 = .ok (.aload_n 2, 1) := dk_44 (dk_at dksL_law_31 17 rfl rfl)
theorem dL_law_868 : decode cL_law 868 = .ok (.invokevirtual 127, 3) := dk_182 0 127 (dk_at dksL_law_31 18 rfl rfl)
theorem dL_law_871 : decode cL_law 871 = .ok (.iload 6, 2) := dk_21 6 (dk_at dksL_law_31 21 rfl rfl)
theorem dL_law_873 : decode cL_law 873 = .ok (.if_icmp .eq 5, 3) := dk_159 0 5 (dk_at dksL_law_32 0 rfl rfl)
theorem dL_law_876 : decode cL_law 876 = .ok (.iconst 0, 1) := dk_3 (dk_at dksL_law_32 3 rfl rfl)
theorem dL_law_877 : decode cL_law 877 = .ok (.ireturn, 1) := dk_172 (dk_at dksL_law_32 4 rfl rfl)
theorem dL_law_878 : decode cL_law 878 = .ok (.iload 6, 2) := dk_21 6 (dk_at dksL_law_32 5 rfl rfl)
theorem dL_law_880 : decode cL_law 880 = .ok (.ifCond .ne 15, 3) := dk_154 0 15 (dk_at dksL_law_32 7 rfl rfl)
theorem dL_law_883 : decode cL_law 883 = .ok (.aload_n 3, 1) := dk_45 (dk_at dksL_law_32 10 rfl rfl)
theorem dL_law_884 : decode cL_law 884 = .ok (.iconst 0, 1) := dk_3 (dk_at dksL_law_32 11 rfl rfl)
theorem dL_law_885 : decode cL_law 885 = .ok (.laload, 1) := dk_47 (dk_at dksL_law_32 12 rfl rfl)
theorem dL_law_886 : decode cL_law 886 = .ok (.iload 7, 2) := dk_21 7 (dk_at dksL_law_32 13 rfl rfl)
theorem dL_law_888 : decode cL_law 888 = .ok (.i2l, 1) := dk_133 (dk_at dksL_law_32 15 rfl rfl)
theorem dL_law_889 : decode cL_law 889 = .ok (.lcmp, 1) := dk_148 (dk_at dksL_law_32 16 rfl rfl)
theorem dL_law_890 : decode cL_law 890 = .ok (.ifCond .eq 5, 3) := dk_153 0 5 (dk_at dksL_law_32 17 rfl rfl)
theorem dL_law_893 : decode cL_law 893 = .ok (.iconst 0, 1) := dk_3 (dk_at dksL_law_32 20 rfl rfl)
theorem dL_law_894 : decode cL_law 894 = .ok (.ireturn, 1) := dk_172 (dk_at dksL_law_32 21 rfl rfl)
theorem dL_law_895 : decode cL_law 895 = .ok (.goto 1229, 3) := dk_167 4 205 (dk_at dksL_law_33 0 rfl rfl)
theorem dL_law_898 : decode cL_law 898 = .ok (.aload_n 1, 1) := dk_43 (dk_at dksL_law_33 3 rfl rfl)
theorem dL_law_899 : decode cL_law 899 = .ok (.aload_n 0, 1) := dk_42 (dk_at dksL_law_33 4 rfl rfl)
theorem dL_law_900 : decode cL_law 900 = .ok (.iload 5, 2) := dk_21 5 (dk_at dksL_law_33 5 rfl rfl)
theorem dL_law_902 : decode cL_law 902 = .ok (.iconst 1, 1) := dk_4 (dk_at dksL_law_33 7 rfl rfl)
theorem dL_law_903 : decode cL_law 903 = .ok (.iadd, 1) := dk_96 (dk_at dksL_law_33 8 rfl rfl)
theorem dL_law_904 : decode cL_law 904 = .ok (.iaload, 1) := dk_46 (dk_at dksL_law_33 9 rfl rfl)
theorem dL_law_905 : decode cL_law 905 = .ok (.aload_n 3, 1) := dk_45 (dk_at dksL_law_33 10 rfl rfl)
theorem dL_law_906 : decode cL_law 906 = .ok (.invokestatic 161, 3) := dk_184 0 161 (dk_at dksL_law_33 11 rfl rfl)
theorem dL_law_909 : decode cL_law 909 = .ok (.istore 6, 2) := dk_54 6 (dk_at dksL_law_33 14 rfl rfl)
theorem dL_law_911 : decode cL_law 911 = .ok (.aload_n 2, 1) := dk_44 (dk_at dksL_law_33 16 rfl rfl)
theorem dL_law_912 : decode cL_law 912 = .ok (.aload_n 0, 1) := dk_42 (dk_at dksL_law_33 17 rfl rfl)
theorem dL_law_913 : decode cL_law 913 = .ok (.iload 5, 2) := dk_21 5 (dk_at dksL_law_33 18 rfl rfl)
theorem dL_law_915 : decode cL_law 915 = .ok (.iconst 1, 1) := dk_4 (dk_at dksL_law_33 20 rfl rfl)
theorem dL_law_916 : decode cL_law 916 = .ok (.iadd, 1) := dk_96 (dk_at dksL_law_33 21 rfl rfl)
theorem dL_law_917 : decode cL_law 917 = .ok (.iaload, 1) := dk_46 (dk_at dksL_law_33 22 rfl rfl)
theorem dL_law_918 : decode cL_law 918 = .ok (.invokevirtual 163, 3) := dk_182 0 163 (dk_at dksL_law_34 0 rfl rfl)
theorem dL_law_921 : decode cL_law 921 = .ok (.istore 7, 2) := dk_54 7 (dk_at dksL_law_34 3 rfl rfl)
theorem dL_law_923 : decode cL_law 923 = .ok (.aload_n 2, 1) := dk_44 (dk_at dksL_law_34 5 rfl rfl)
theorem dL_law_924 : decode cL_law 924 = .ok (.invokevirtual 127, 3) := dk_182 0 127 (dk_at dksL_law_34 6 rfl rfl)
theorem dL_law_927 : decode cL_law 927 = .ok (.iload 6, 2) := dk_21 6 (dk_at dksL_law_34 9 rfl rfl)
theorem dL_law_929 : decode cL_law 929 = .ok (.if_icmp .eq 5, 3) := dk_159 0 5 (dk_at dksL_law_34 11 rfl rfl)
theorem dL_law_932 : decode cL_law 932 = .ok (.iconst 0, 1) := dk_3 (dk_at dksL_law_34 14 rfl rfl)
theorem dL_law_933 : decode cL_law 933 = .ok (.ireturn, 1) := dk_172 (dk_at dksL_law_34 15 rfl rfl)
theorem dL_law_934 : decode cL_law 934 = .ok (.iload 6, 2) := dk_21 6 (dk_at dksL_law_34 16 rfl rfl)
theorem dL_law_936 : decode cL_law 936 = .ok (.ifCond .ne 15, 3) := dk_154 0 15 (dk_at dksL_law_34 18 rfl rfl)
theorem dL_law_939 : decode cL_law 939 = .ok (.aload_n 3, 1) := dk_45 (dk_at dksL_law_34 21 rfl rfl)
theorem dL_law_940 : decode cL_law 940 = .ok (.iconst 0, 1) := dk_3 (dk_at dksL_law_34 22 rfl rfl)
theorem dL_law_941 : decode cL_law 941 = .ok (.laload, 1) := dk_47 (dk_at dksL_law_34 23 rfl rfl)
theorem dL_law_942 : decode cL_law 942 = .ok (.iload 7, 2) := dk_21 7 (dk_at dksL_law_35 0 rfl rfl)
theorem dL_law_944 : decode cL_law 944 = .ok (.i2l, 1) := dk_133 (dk_at dksL_law_35 2 rfl rfl)
theorem dL_law_945 : decode cL_law 945 = .ok (.lcmp, 1) := dk_148 (dk_at dksL_law_35 3 rfl rfl)
theorem dL_law_946 : decode cL_law 946 = .ok (.ifCond .eq 5, 3) := dk_153 0 5 (dk_at dksL_law_35 4 rfl rfl)
theorem dL_law_949 : decode cL_law 949 = .ok (.iconst 0, 1) := dk_3 (dk_at dksL_law_35 7 rfl rfl)
theorem dL_law_950 : decode cL_law 950 = .ok (.ireturn, 1) := dk_172 (dk_at dksL_law_35 8 rfl rfl)
theorem dL_law_951 : decode cL_law 951 = .ok (.goto 1173, 3) := dk_167 4 149 (dk_at dksL_law_35 9 rfl rfl)
theorem dL_law_954 : decode cL_law 954 = .ok (.aload_n 1, 1) := dk_43 (dk_at dksL_law_35 12 rfl rfl)
theorem dL_law_955 : decode cL_law 955 = .ok (.aload_n 0, 1) := dk_42 (dk_at dksL_law_35 13 rfl rfl)
theorem dL_law_956 : decode cL_law 956 = .ok (.iload 5, 2) := dk_21 5 (dk_at dksL_law_35 14 rfl rfl)
theorem dL_law_958 : decode cL_law 958 = .ok (.iconst 1, 1) := dk_4 (dk_at dksL_law_35 16 rfl rfl)
theorem dL_law_959 : decode cL_law 959 = .ok (.iadd, 1) := dk_96 (dk_at dksL_law_35 17 rfl rfl)
theorem dL_law_960 : decode cL_law 960 = .ok (.iaload, 1) := dk_46 (dk_at dksL_law_35 18 rfl rfl)
theorem dL_law_961 : decode cL_law 961 = .ok (.aload_n 0, 1) := dk_42 (dk_at dksL_law_35 19 rfl rfl)
theorem dL_law_962 : decode cL_law 962 = .ok (.iload 5, 2) := dk_21 5 (dk_at dksL_law_35 20 rfl rfl)
theorem dL_law_964 : decode cL_law 964 = .ok (.iconst 2, 1) := dk_5 (dk_at dksL_law_35 22 rfl rfl)
theorem dL_law_965 : decode cL_law 965 = .ok (.iadd, 1) := dk_96 (dk_at dksL_law_35 23 rfl rfl)
theorem dL_law_966 : decode cL_law 966 = .ok (.iaload, 1) := dk_46 (dk_at dksL_law_36 0 rfl rfl)
theorem dL_law_967 : decode cL_law 967 = .ok (.aload_n 3, 1) := dk_45 (dk_at dksL_law_36 1 rfl rfl)
theorem dL_law_968 : decode cL_law 968 = .ok (.invokestatic 164, 3) := dk_184 0 164 (dk_at dksL_law_36 2 rfl rfl)
theorem dL_law_971 : decode cL_law 971 = .ok (.istore 6, 2) := dk_54 6 (dk_at dksL_law_36 5 rfl rfl)
theorem dL_law_973 : decode cL_law 973 = .ok (.aload_n 2, 1) := dk_44 (dk_at dksL_law_36 7 rfl rfl)
theorem dL_law_974 : decode cL_law 974 = .ok (.aload_n 0, 1) := dk_42 (dk_at dksL_law_36 8 rfl rfl)
theorem dL_law_975 : decode cL_law 975 = .ok (.iload 5, 2) := dk_21 5 (dk_at dksL_law_36 9 rfl rfl)
theorem dL_law_977 : decode cL_law 977 = .ok (.iconst 1, 1) := dk_4 (dk_at dksL_law_36 11 rfl rfl)
theorem dL_law_978 : decode cL_law 978 = .ok (.iadd, 1) := dk_96 (dk_at dksL_law_36 12 rfl rfl)
theorem dL_law_979 : decode cL_law 979 = .ok (.iaload, 1) := dk_46 (dk_at dksL_law_36 13 rfl rfl)
theorem dL_law_980 : decode cL_law 980 = .ok (.aload_n 0, 1) := dk_42 (dk_at dksL_law_36 14 rfl rfl)
theorem dL_law_981 : decode cL_law 981 = .ok (.iload 5, 2) := dk_21 5 (dk_at dksL_law_36 15 rfl rfl)
theorem dL_law_983 : decode cL_law 983 = .ok (.iconst 2, 1) := dk_5 (dk_at dksL_law_36 17 rfl rfl)
theorem dL_law_984 : decode cL_law 984 = .ok (.iadd, 1) := dk_96 (dk_at dksL_law_36 18 rfl rfl)
theorem dL_law_985 : decode cL_law 985 = .ok (.iaload, 1) := dk_46 (dk_at dksL_law_36 19 rfl rfl)
theorem dL_law_986 : decode cL_law 986 = .ok (.invokevirtual 166, 3) := dk_182 0 166 (dk_at dksL_law_36 20 rfl rfl)
theorem dL_law_989 : decode cL_law 989 = .ok (.istore 7, 2) := dk_54 7 (dk_at dksL_law_37 0 rfl rfl)
theorem dL_law_991 : decode cL_law 991 = .ok (.aload_n 2, 1) := dk_44 (dk_at dksL_law_37 2 rfl rfl)
theorem dL_law_992 : decode cL_law 992 = .ok (.invokevirtual 127, 3) := dk_182 0 127 (dk_at dksL_law_37 3 rfl rfl)
theorem dL_law_995 : decode cL_law 995 = .ok (.iload 6, 2) := dk_21 6 (dk_at dksL_law_37 6 rfl rfl)
theorem dL_law_997 : decode cL_law 997 = .ok (.if_icmp .eq 5, 3) := dk_159 0 5 (dk_at dksL_law_37 8 rfl rfl)
theorem dL_law_1000 : decode cL_law 1000 = .ok (.iconst 0, 1) := dk_3 (dk_at dksL_law_37 11 rfl rfl)
theorem dL_law_1001 : decode cL_law 1001 = .ok (.ireturn, 1) := dk_172 (dk_at dksL_law_37 12 rfl rfl)
theorem dL_law_1002 : decode cL_law 1002 = .ok (.iload 6, 2) := dk_21 6 (dk_at dksL_law_37 13 rfl rfl)
theorem dL_law_1004 : decode cL_law 1004 = .ok (.ifCond .ne 15, 3) := dk_154 0 15 (dk_at dksL_law_37 15 rfl rfl)
theorem dL_law_1007 : decode cL_law 1007 = .ok (.aload_n 3, 1) := dk_45 (dk_at dksL_law_37 18 rfl rfl)
theorem dL_law_1008 : decode cL_law 1008 = .ok (.iconst 0, 1) := dk_3 (dk_at dksL_law_37 19 rfl rfl)
theorem dL_law_1009 : decode cL_law 1009 = .ok (.laload, 1) := dk_47 (dk_at dksL_law_37 20 rfl rfl)
theorem dL_law_1010 : decode cL_law 1010 = .ok (.iload 7, 2) := dk_21 7 (dk_at dksL_law_37 21 rfl rfl)
theorem dL_law_1012 : decode cL_law 1012 = .ok (.i2l, 1) := dk_133 (dk_at dksL_law_37 23 rfl rfl)
theorem dL_law_1013 : decode cL_law 1013 = .ok (.lcmp, 1) := dk_148 (dk_at dksL_law_38 0 rfl rfl)
theorem dL_law_1014 : decode cL_law 1014 = .ok (.ifCond .eq 5, 3) := dk_153 0 5 (dk_at dksL_law_38 1 rfl rfl)
theorem dL_law_1017 : decode cL_law 1017 = .ok (.iconst 0, 1) := dk_3 (dk_at dksL_law_38 4 rfl rfl)
theorem dL_law_1018 : decode cL_law 1018 = .ok (.ireturn, 1) := dk_172 (dk_at dksL_law_38 5 rfl rfl)
theorem dL_law_1019 : decode cL_law 1019 = .ok (.goto 1105, 3) := dk_167 4 81 (dk_at dksL_law_38 6 rfl rfl)
theorem dL_law_1022 : decode cL_law 1022 = .ok (.aload_n 1, 1) := dk_43 (dk_at dksL_law_38 9 rfl rfl)
theorem dL_law_1023 : decode cL_law 1023 = .ok (.aload_n 0, 1) := dk_42 (dk_at dksL_law_38 10 rfl rfl)
theorem dL_law_1024 : decode cL_law 1024 = .ok (.iload 5, 2) := dk_21 5 (dk_at dksL_law_38 11 rfl rfl)
theorem dL_law_1026 : decode cL_law 1026 = .ok (.iconst 1, 1) := dk_4 (dk_at dksL_law_38 13 rfl rfl)
theorem dL_law_1027 : decode cL_law 1027 = .ok (.iadd, 1) := dk_96 (dk_at dksL_law_38 14 rfl rfl)
theorem dL_law_1028 : decode cL_law 1028 = .ok (.iaload, 1) := dk_46 (dk_at dksL_law_38 15 rfl rfl)
theorem dL_law_1029 : decode cL_law 1029 = .ok (.aload_n 3, 1) := dk_45 (dk_at dksL_law_38 16 rfl rfl)
theorem dL_law_1030 : decode cL_law 1030 = .ok (.invokestatic 167, 3) := dk_184 0 167 (dk_at dksL_law_38 17 rfl rfl)
theorem dL_law_1033 : decode cL_law 1033 = .ok (.istore 6, 2) := dk_54 6 (dk_at dksL_law_38 20 rfl rfl)
theorem dL_law_1035 : decode cL_law 1035 = .ok (.aload_n 2, 1) := dk_44 (dk_at dksL_law_38 22 rfl rfl)
theorem dL_law_1036 : decode cL_law 1036 = .ok (.aload_n 0, 1) := dk_42 (dk_at dksL_law_38 23 rfl rfl)
theorem dL_law_1037 : decode cL_law 1037 = .ok (.iload 5, 2) := dk_21 5 (dk_at dksL_law_39 0 rfl rfl)
theorem dL_law_1039 : decode cL_law 1039 = .ok (.iconst 1, 1) := dk_4 (dk_at dksL_law_39 2 rfl rfl)
theorem dL_law_1040 : decode cL_law 1040 = .ok (.iadd, 1) := dk_96 (dk_at dksL_law_39 3 rfl rfl)
theorem dL_law_1041 : decode cL_law 1041 = .ok (.iaload, 1) := dk_46 (dk_at dksL_law_39 4 rfl rfl)
theorem dL_law_1042 : decode cL_law 1042 = .ok (.invokevirtual 169, 3) := dk_182 0 169 (dk_at dksL_law_39 5 rfl rfl)
theorem dL_law_1045 : decode cL_law 1045 = .ok (.istore 7, 2) := dk_54 7 (dk_at dksL_law_39 8 rfl rfl)
theorem dL_law_1047 : decode cL_law 1047 = .ok (.aload_n 2, 1) := dk_44 (dk_at dksL_law_39 10 rfl rfl)
theorem dL_law_1048 : decode cL_law 1048 = .ok (.invokevirtual 127, 3) := dk_182 0 127 (dk_at dksL_law_39 11 rfl rfl)
theorem dL_law_1051 : decode cL_law 1051 = .ok (.iload 6, 2) := dk_21 6 (dk_at dksL_law_39 14 rfl rfl)
theorem dL_law_1053 : decode cL_law 1053 = .ok (.if_icmp .eq 5, 3) := dk_159 0 5 (dk_at dksL_law_39 16 rfl rfl)
theorem dL_law_1056 : decode cL_law 1056 = .ok (.iconst 0, 1) := dk_3 (dk_at dksL_law_39 19 rfl rfl)
theorem dL_law_1057 : decode cL_law 1057 = .ok (.ireturn, 1) := dk_172 (dk_at dksL_law_39 20 rfl rfl)
theorem dL_law_1058 : decode cL_law 1058 = .ok (.iload 6, 2) := dk_21 6 (dk_at dksL_law_39 21 rfl rfl)
theorem dL_law_1060 : decode cL_law 1060 = .ok (.ifCond .ne 15, 3) := dk_154 0 15 (dk_at dksL_law_40 0 rfl rfl)
theorem dL_law_1063 : decode cL_law 1063 = .ok (.aload_n 3, 1) := dk_45 (dk_at dksL_law_40 3 rfl rfl)
theorem dL_law_1064 : decode cL_law 1064 = .ok (.iconst 0, 1) := dk_3 (dk_at dksL_law_40 4 rfl rfl)
theorem dL_law_1065 : decode cL_law 1065 = .ok (.laload, 1) := dk_47 (dk_at dksL_law_40 5 rfl rfl)
theorem dL_law_1066 : decode cL_law 1066 = .ok (.iload 7, 2) := dk_21 7 (dk_at dksL_law_40 6 rfl rfl)
theorem dL_law_1068 : decode cL_law 1068 = .ok (.i2l, 1) := dk_133 (dk_at dksL_law_40 8 rfl rfl)
theorem dL_law_1069 : decode cL_law 1069 = .ok (.lcmp, 1) := dk_148 (dk_at dksL_law_40 9 rfl rfl)
theorem dL_law_1070 : decode cL_law 1070 = .ok (.ifCond .eq 5, 3) := dk_153 0 5 (dk_at dksL_law_40 10 rfl rfl)
theorem dL_law_1073 : decode cL_law 1073 = .ok (.iconst 0, 1) := dk_3 (dk_at dksL_law_40 13 rfl rfl)
theorem dL_law_1074 : decode cL_law 1074 = .ok (.ireturn, 1) := dk_172 (dk_at dksL_law_40 14 rfl rfl)
theorem dL_law_1075 : decode cL_law 1075 = .ok (.goto 1049, 3) := dk_167 4 25 (dk_at dksL_law_40 15 rfl rfl)
theorem dL_law_1078 : decode cL_law 1078 = .ok (.aload_n 1, 1) := dk_43 (dk_at dksL_law_40 18 rfl rfl)
theorem dL_law_1079 : decode cL_law 1079 = .ok (.aload_n 0, 1) := dk_42 (dk_at dksL_law_40 19 rfl rfl)
theorem dL_law_1080 : decode cL_law 1080 = .ok (.iload 5, 2) := dk_21 5 (dk_at dksL_law_40 20 rfl rfl)
theorem dL_law_1082 : decode cL_law 1082 = .ok (.iconst 1, 1) := dk_4 (dk_at dksL_law_40 22 rfl rfl)
theorem dL_law_1083 : decode cL_law 1083 = .ok (.iadd, 1) := dk_96 (dk_at dksL_law_40 23 rfl rfl)
theorem dL_law_1084 : decode cL_law 1084 = .ok (.iaload, 1) := dk_46 (dk_at dksL_law_41 0 rfl rfl)
theorem dL_law_1085 : decode cL_law 1085 = .ok (.ifCond .eq 7, 3) := dk_153 0 7 (dk_at dksL_law_41 1 rfl rfl)
theorem dL_law_1088 : decode cL_law 1088 = .ok (.iconst 1, 1) := dk_4 (dk_at dksL_law_41 4 rfl rfl)
theorem dL_law_1089 : decode cL_law 1089 = .ok (.goto 4, 3) := dk_167 0 4 (dk_at dksL_law_41 5 rfl rfl)
theorem dL_law_1092 : decode cL_law 1092 = .ok (.iconst 0, 1) := dk_3 (dk_at dksL_law_41 8 rfl rfl)
theorem dL_law_1093 : decode cL_law 1093 = .ok (.invokevirtual 170, 3) := dk_182 0 170 (dk_at dksL_law_41 9 rfl rfl)
theorem dL_law_1096 : decode cL_law 1096 = .ok (.aload_n 2, 1) := dk_44 (dk_at dksL_law_41 12 rfl rfl)
theorem dL_law_1097 : decode cL_law 1097 = .ok (.aload_n 0, 1) := dk_42 (dk_at dksL_law_41 13 rfl rfl)
theorem dL_law_1098 : decode cL_law 1098 = .ok (.iload 5, 2) := dk_21 5 (dk_at dksL_law_41 14 rfl rfl)
theorem dL_law_1100 : decode cL_law 1100 = .ok (.iconst 1, 1) := dk_4 (dk_at dksL_law_41 16 rfl rfl)
theorem dL_law_1101 : decode cL_law 1101 = .ok (.iadd, 1) := dk_96 (dk_at dksL_law_41 17 rfl rfl)
theorem dL_law_1102 : decode cL_law 1102 = .ok (.iaload, 1) := dk_46 (dk_at dksL_law_41 18 rfl rfl)
theorem dL_law_1103 : decode cL_law 1103 = .ok (.ifCond .eq 7, 3) := dk_153 0 7 (dk_at dksL_law_41 19 rfl rfl)
theorem dL_law_1106 : decode cL_law 1106 = .ok (.iconst 1, 1) := dk_4 (dk_at dksL_law_41 22 rfl rfl)
theorem dL_law_1107 : decode cL_law 1107 = .ok (.goto 4, 3) := dk_167 0 4 (dk_at dksL_law_42 0 rfl rfl)
theorem dL_law_1110 : decode cL_law 1110 = .ok (.iconst 0, 1) := dk_3 (dk_at dksL_law_42 3 rfl rfl)
theorem dL_law_1111 : decode cL_law 1111 = .ok (.invokevirtual 174, 3) := dk_182 0 174 (dk_at dksL_law_42 4 rfl rfl)
theorem dL_law_1114 : decode cL_law 1114 = .ok (.if_icmp .eq 1010, 3) := dk_159 3 242 (dk_at dksL_law_42 7 rfl rfl)
theorem dL_law_1117 : decode cL_law 1117 = .ok (.iconst 0, 1) := dk_3 (dk_at dksL_law_42 10 rfl rfl)
theorem dL_law_1118 : decode cL_law 1118 = .ok (.ireturn, 1) := dk_172 (dk_at dksL_law_42 11 rfl rfl)
theorem dL_law_1119 : decode cL_law 1119 = .ok (.aload_n 1, 1) := dk_43 (dk_at dksL_law_42 12 rfl rfl)
theorem dL_law_1120 : decode cL_law 1120 = .ok (.aload_n 0, 1) := dk_42 (dk_at dksL_law_42 13 rfl rfl)
theorem dL_law_1121 : decode cL_law 1121 = .ok (.iload 5, 2) := dk_21 5 (dk_at dksL_law_42 14 rfl rfl)
theorem dL_law_1123 : decode cL_law 1123 = .ok (.iconst 1, 1) := dk_4 (dk_at dksL_law_42 16 rfl rfl)
theorem dL_law_1124 : decode cL_law 1124 = .ok (.iadd, 1) := dk_96 (dk_at dksL_law_42 17 rfl rfl)
theorem dL_law_1125 : decode cL_law 1125 = .ok (.iaload, 1) := dk_46 (dk_at dksL_law_42 18 rfl rfl)
theorem dL_law_1126 : decode cL_law 1126 = .ok (.aload_n 0, 1) := dk_42 (dk_at dksL_law_42 19 rfl rfl)
theorem dL_law_1127 : decode cL_law 1127 = .ok (.iload 5, 2) := dk_21 5 (dk_at dksL_law_42 20 rfl rfl)
theorem dL_law_1129 : decode cL_law 1129 = .ok (.iconst 2, 1) := dk_5 (dk_at dksL_law_42 22 rfl rfl)
theorem dL_law_1130 : decode cL_law 1130 = .ok (.iadd, 1) := dk_96 (dk_at dksL_law_42 23 rfl rfl)
theorem dL_law_1131 : decode cL_law 1131 = .ok (.iaload, 1) := dk_46 (dk_at dksL_law_43 0 rfl rfl)
theorem dL_law_1132 : decode cL_law 1132 = .ok (.aload_n 3, 1) := dk_45 (dk_at dksL_law_43 1 rfl rfl)
theorem dL_law_1133 : decode cL_law 1133 = .ok (.invokestatic 175, 3) := dk_184 0 175 (dk_at dksL_law_43 2 rfl rfl)
theorem dL_law_1136 : decode cL_law 1136 = .ok (.istore 6, 2) := dk_54 6 (dk_at dksL_law_43 5 rfl rfl)
theorem dL_law_1138 : decode cL_law 1138 = .ok (.aload_n 2, 1) := dk_44 (dk_at dksL_law_43 7 rfl rfl)
theorem dL_law_1139 : decode cL_law 1139 = .ok (.aload_n 0, 1) := dk_42 (dk_at dksL_law_43 8 rfl rfl)
theorem dL_law_1140 : decode cL_law 1140 = .ok (.iload 5, 2) := dk_21 5 (dk_at dksL_law_43 9 rfl rfl)
theorem dL_law_1142 : decode cL_law 1142 = .ok (.iconst 1, 1) := dk_4 (dk_at dksL_law_43 11 rfl rfl)
theorem dL_law_1143 : decode cL_law 1143 = .ok (.iadd, 1) := dk_96 (dk_at dksL_law_43 12 rfl rfl)
theorem dL_law_1144 : decode cL_law 1144 = .ok (.iaload, 1) := dk_46 (dk_at dksL_law_43 13 rfl rfl)
theorem dL_law_1145 : decode cL_law 1145 = .ok (.aload_n 0, 1) := dk_42 (dk_at dksL_law_43 14 rfl rfl)
theorem dL_law_1146 : decode cL_law 1146 = .ok (.iload 5, 2) := dk_21 5 (dk_at dksL_law_43 15 rfl rfl)
theorem dL_law_1148 : decode cL_law 1148 = .ok (.iconst 2, 1) := dk_5 (dk_at dksL_law_43 17 rfl rfl)
theorem dL_law_1149 : decode cL_law 1149 = .ok (.iadd, 1) := dk_96 (dk_at dksL_law_43 18 rfl rfl)
theorem dL_law_1150 : decode cL_law 1150 = .ok (.iaload, 1) := dk_46 (dk_at dksL_law_43 19 rfl rfl)
theorem dL_law_1151 : decode cL_law 1151 = .ok (.invokevirtual 177, 3) := dk_182 0 177 (dk_at dksL_law_43 20 rfl rfl)
theorem dL_law_1154 : decode cL_law 1154 = .ok (.istore 7, 2) := dk_54 7 (dk_at dksL_law_44 0 rfl rfl)
theorem dL_law_1156 : decode cL_law 1156 = .ok (.aload_n 2, 1) := dk_44 (dk_at dksL_law_44 2 rfl rfl)
theorem dL_law_1157 : decode cL_law 1157 = .ok (.invokevirtual 127, 3) := dk_182 0 127 (dk_at dksL_law_44 3 rfl rfl)
theorem dL_law_1160 : decode cL_law 1160 = .ok (.iload 6, 2) := dk_21 6 (dk_at dksL_law_44 6 rfl rfl)
theorem dL_law_1162 : decode cL_law 1162 = .ok (.if_icmp .eq 5, 3) := dk_159 0 5 (dk_at dksL_law_44 8 rfl rfl)
theorem dL_law_1165 : decode cL_law 1165 = .ok (.iconst 0, 1) := dk_3 (dk_at dksL_law_44 11 rfl rfl)
theorem dL_law_1166 : decode cL_law 1166 = .ok (.ireturn, 1) := dk_172 (dk_at dksL_law_44 12 rfl rfl)
theorem dL_law_1167 : decode cL_law 1167 = .ok (.iload 6, 2) := dk_21 6 (dk_at dksL_law_44 13 rfl rfl)
theorem dL_law_1169 : decode cL_law 1169 = .ok (.ifCond .ne 15, 3) := dk_154 0 15 (dk_at dksL_law_44 15 rfl rfl)
theorem dL_law_1172 : decode cL_law 1172 = .ok (.aload_n 3, 1) := dk_45 (dk_at dksL_law_44 18 rfl rfl)
theorem dL_law_1173 : decode cL_law 1173 = .ok (.iconst 0, 1) := dk_3 (dk_at dksL_law_44 19 rfl rfl)
theorem dL_law_1174 : decode cL_law 1174 = .ok (.laload, 1) := dk_47 (dk_at dksL_law_44 20 rfl rfl)
theorem dL_law_1175 : decode cL_law 1175 = .ok (.iload 7, 2) := dk_21 7 (dk_at dksL_law_44 21 rfl rfl)
theorem dL_law_1177 : decode cL_law 1177 = .ok (.i2l, 1) := dk_133 (dk_at dksL_law_44 23 rfl rfl)
theorem dL_law_1178 : decode cL_law 1178 = .ok (.lcmp, 1) := dk_148 (dk_at dksL_law_45 0 rfl rfl)
theorem dL_law_1179 : decode cL_law 1179 = .ok (.ifCond .eq 5, 3) := dk_153 0 5 (dk_at dksL_law_45 1 rfl rfl)
theorem dL_law_1182 : decode cL_law 1182 = .ok (.iconst 0, 1) := dk_3 (dk_at dksL_law_45 4 rfl rfl)
theorem dL_law_1183 : decode cL_law 1183 = .ok (.ireturn, 1) := dk_172 (dk_at dksL_law_45 5 rfl rfl)
theorem dL_law_1184 : decode cL_law 1184 = .ok (.goto 940, 3) := dk_167 3 172 (dk_at dksL_law_45 6 rfl rfl)
theorem dL_law_1187 : decode cL_law 1187 = .ok (.aload_n 1, 1) := dk_43 (dk_at dksL_law_45 9 rfl rfl)
theorem dL_law_1188 : decode cL_law 1188 = .ok (.aload_n 0, 1) := dk_42 (dk_at dksL_law_45 10 rfl rfl)
theorem dL_law_1189 : decode cL_law 1189 = .ok (.iload 5, 2) := dk_21 5 (dk_at dksL_law_45 11 rfl rfl)
theorem dL_law_1191 : decode cL_law 1191 = .ok (.iconst 1, 1) := dk_4 (dk_at dksL_law_45 13 rfl rfl)
theorem dL_law_1192 : decode cL_law 1192 = .ok (.iadd, 1) := dk_96 (dk_at dksL_law_45 14 rfl rfl)
theorem dL_law_1193 : decode cL_law 1193 = .ok (.iaload, 1) := dk_46 (dk_at dksL_law_45 15 rfl rfl)
theorem dL_law_1194 : decode cL_law 1194 = .ok (.aload_n 0, 1) := dk_42 (dk_at dksL_law_45 16 rfl rfl)
theorem dL_law_1195 : decode cL_law 1195 = .ok (.iload 5, 2) := dk_21 5 (dk_at dksL_law_45 17 rfl rfl)
theorem dL_law_1197 : decode cL_law 1197 = .ok (.iconst 2, 1) := dk_5 (dk_at dksL_law_45 19 rfl rfl)
theorem dL_law_1198 : decode cL_law 1198 = .ok (.iadd, 1) := dk_96 (dk_at dksL_law_45 20 rfl rfl)
theorem dL_law_1199 : decode cL_law 1199 = .ok (.iaload, 1) := dk_46 (dk_at dksL_law_45 21 rfl rfl)
theorem dL_law_1200 : decode cL_law 1200 = .ok (.aload_n 3, 1) := dk_45 (dk_at dksL_law_45 22 rfl rfl)
theorem dL_law_1201 : decode cL_law 1201 = .ok (.invokestatic 178, 3) := dk_184 0 178 (dk_at dksL_law_46 0 rfl rfl)
theorem dL_law_1204 : decode cL_law 1204 = .ok (.istore 6, 2) := dk_54 6 (dk_at dksL_law_46 3 rfl rfl)
theorem dL_law_1206 : decode cL_law 1206 = .ok (.aload_n 2, 1) := dk_44 (dk_at dksL_law_46 5 rfl rfl)
theorem dL_law_1207 : decode cL_law 1207 = .ok (.aload_n 0, 1) := dk_42 (dk_at dksL_law_46 6 rfl rfl)
theorem dL_law_1208 : decode cL_law 1208 = .ok (.iload 5, 2) := dk_21 5 (dk_at dksL_law_46 7 rfl rfl)
theorem dL_law_1210 : decode cL_law 1210 = .ok (.iconst 1, 1) := dk_4 (dk_at dksL_law_46 9 rfl rfl)
theorem dL_law_1211 : decode cL_law 1211 = .ok (.iadd, 1) := dk_96 (dk_at dksL_law_46 10 rfl rfl)
theorem dL_law_1212 : decode cL_law 1212 = .ok (.iaload, 1) := dk_46 (dk_at dksL_law_46 11 rfl rfl)
theorem dL_law_1213 : decode cL_law 1213 = .ok (.aload_n 0, 1) := dk_42 (dk_at dksL_law_46 12 rfl rfl)
theorem dL_law_1214 : decode cL_law 1214 = .ok (.iload 5, 2) := dk_21 5 (dk_at dksL_law_46 13 rfl rfl)
theorem dL_law_1216 : decode cL_law 1216 = .ok (.iconst 2, 1) := dk_5 (dk_at dksL_law_46 15 rfl rfl)
theorem dL_law_1217 : decode cL_law 1217 = .ok (.iadd, 1) := dk_96 (dk_at dksL_law_46 16 rfl rfl)
theorem dL_law_1218 : decode cL_law 1218 = .ok (.iaload, 1) := dk_46 (dk_at dksL_law_46 17 rfl rfl)
theorem dL_law_1219 : decode cL_law 1219 = .ok (.invokevirtual 180, 3) := dk_182 0 180 (dk_at dksL_law_46 18 rfl rfl)
theorem dL_law_1222 : decode cL_law 1222 = .ok (.istore 7, 2) := dk_54 7 (dk_at dksL_law_46 21 rfl rfl)
theorem dL_law_1224 : decode cL_law 1224 = .ok (.aload_n 2, 1) := dk_44 (dk_at dksL_law_46 23 rfl rfl)
theorem dL_law_1225 : decode cL_law 1225 = .ok (.invokevirtual 127, 3) := dk_182 0 127 (dk_at dksL_law_47 0 rfl rfl)
theorem dL_law_1228 : decode cL_law 1228 = .ok (.iload 6, 2) := dk_21 6 (dk_at dksL_law_47 3 rfl rfl)
theorem dL_law_1230 : decode cL_law 1230 = .ok (.if_icmp .eq 5, 3) := dk_159 0 5 (dk_at dksL_law_47 5 rfl rfl)
theorem dL_law_1233 : decode cL_law 1233 = .ok (.iconst 0, 1) := dk_3 (dk_at dksL_law_47 8 rfl rfl)
theorem dL_law_1234 : decode cL_law 1234 = .ok (.ireturn, 1) := dk_172 (dk_at dksL_law_47 9 rfl rfl)
theorem dL_law_1235 : decode cL_law 1235 = .ok (.iload 6, 2) := dk_21 6 (dk_at dksL_law_47 10 rfl rfl)
theorem dL_law_1237 : decode cL_law 1237 = .ok (.ifCond .ne 15, 3) := dk_154 0 15 (dk_at dksL_law_47 12 rfl rfl)
theorem dL_law_1240 : decode cL_law 1240 = .ok (.aload_n 3, 1) := dk_45 (dk_at dksL_law_47 15 rfl rfl)
theorem dL_law_1241 : decode cL_law 1241 = .ok (.iconst 0, 1) := dk_3 (dk_at dksL_law_47 16 rfl rfl)
theorem dL_law_1242 : decode cL_law 1242 = .ok (.laload, 1) := dk_47 (dk_at dksL_law_47 17 rfl rfl)
theorem dL_law_1243 : decode cL_law 1243 = .ok (.iload 7, 2) := dk_21 7 (dk_at dksL_law_47 18 rfl rfl)
theorem dL_law_1245 : decode cL_law 1245 = .ok (.i2l, 1) := dk_133 (dk_at dksL_law_47 20 rfl rfl)
theorem dL_law_1246 : decode cL_law 1246 = .ok (.lcmp, 1) := dk_148 (dk_at dksL_law_47 21 rfl rfl)
theorem dL_law_1247 : decode cL_law 1247 = .ok (.ifCond .eq 5, 3) := dk_153 0 5 (dk_at dksL_law_48 0 rfl rfl)
theorem dL_law_1250 : decode cL_law 1250 = .ok (.iconst 0, 1) := dk_3 (dk_at dksL_law_48 3 rfl rfl)
theorem dL_law_1251 : decode cL_law 1251 = .ok (.ireturn, 1) := dk_172 (dk_at dksL_law_48 4 rfl rfl)
theorem dL_law_1252 : decode cL_law 1252 = .ok (.goto 872, 3) := dk_167 3 104 (dk_at dksL_law_48 5 rfl rfl)
theorem dL_law_1255 : decode cL_law 1255 = .ok (.aload_n 1, 1) := dk_43 (dk_at dksL_law_48 8 rfl rfl)
theorem dL_law_1256 : decode cL_law 1256 = .ok (.invokevirtual 181, 3) := dk_182 0 181 (dk_at dksL_law_48 9 rfl rfl)
theorem dL_law_1259 : decode cL_law 1259 = .ok (.aload_n 2, 1) := dk_44 (dk_at dksL_law_48 12 rfl rfl)
theorem dL_law_1260 : decode cL_law 1260 = .ok (.invokevirtual 184, 3) := dk_182 0 184 (dk_at dksL_law_48 13 rfl rfl)
theorem dL_law_1263 : decode cL_law 1263 = .ok (.if_icmp .eq 861, 3) := dk_159 3 93 (dk_at dksL_law_48 16 rfl rfl)
theorem dL_law_1266 : decode cL_law 1266 = .ok (.iconst 0, 1) := dk_3 (dk_at dksL_law_48 19 rfl rfl)
theorem dL_law_1267 : decode cL_law 1267 = .ok (.ireturn, 1) := dk_172 (dk_at dksL_law_48 20 rfl rfl)
theorem dL_law_1268 : decode cL_law 1268 = .ok (.aload_n 1, 1) := dk_43 (dk_at dksL_law_48 21 rfl rfl)
theorem dL_law_1269 : decode cL_law 1269 = .ok (.aload_n 0, 1) := dk_42 (dk_at dksL_law_48 22 rfl rfl)
theorem dL_law_1270 : decode cL_law 1270 = .ok (.iload 5, 2) := dk_21 5 (dk_at dksL_law_49 0 rfl rfl)
theorem dL_law_1272 : decode cL_law 1272 = .ok (.iconst 1, 1) := dk_4 (dk_at dksL_law_49 2 rfl rfl)
theorem dL_law_1273 : decode cL_law 1273 = .ok (.iadd, 1) := dk_96 (dk_at dksL_law_49 3 rfl rfl)
theorem dL_law_1274 : decode cL_law 1274 = .ok (.iaload, 1) := dk_46 (dk_at dksL_law_49 4 rfl rfl)
theorem dL_law_1275 : decode cL_law 1275 = .ok (.aload_n 0, 1) := dk_42 (dk_at dksL_law_49 5 rfl rfl)
theorem dL_law_1276 : decode cL_law 1276 = .ok (.iload 5, 2) := dk_21 5 (dk_at dksL_law_49 6 rfl rfl)
theorem dL_law_1278 : decode cL_law 1278 = .ok (.iconst 2, 1) := dk_5 (dk_at dksL_law_49 8 rfl rfl)
theorem dL_law_1279 : decode cL_law 1279 = .ok (.iadd, 1) := dk_96 (dk_at dksL_law_49 9 rfl rfl)
theorem dL_law_1280 : decode cL_law 1280 = .ok (.iaload, 1) := dk_46 (dk_at dksL_law_49 10 rfl rfl)
theorem dL_law_1281 : decode cL_law 1281 = .ok (.aload_n 3, 1) := dk_45 (dk_at dksL_law_49 11 rfl rfl)
theorem dL_law_1282 : decode cL_law 1282 = .ok (.invokestatic 185, 3) := dk_184 0 185 (dk_at dksL_law_49 12 rfl rfl)
theorem dL_law_1285 : decode cL_law 1285 = .ok (.istore 6, 2) := dk_54 6 (dk_at dksL_law_49 15 rfl rfl)
theorem dL_law_1287 : decode cL_law 1287 = .ok (.aload_n 2, 1) := dk_44 (dk_at dksL_law_49 17 rfl rfl)
theorem dL_law_1288 : decode cL_law 1288 = .ok (.aload_n 0, 1) := dk_42 (dk_at dksL_law_49 18 rfl rfl)
theorem dL_law_1289 : decode cL_law 1289 = .ok (.iload 5, 2) := dk_21 5 (dk_at dksL_law_49 19 rfl rfl)
theorem dL_law_1291 : decode cL_law 1291 = .ok (.iconst 1, 1) := dk_4 (dk_at dksL_law_49 21 rfl rfl)
theorem dL_law_1292 : decode cL_law 1292 = .ok (.iadd, 1) := dk_96 (dk_at dksL_law_49 22 rfl rfl)
theorem dL_law_1293 : decode cL_law 1293 = .ok (.iaload, 1) := dk_46 (dk_at dksL_law_49 23 rfl rfl)
theorem dL_law_1294 : decode cL_law 1294 = .ok (.aload_n 0, 1) := dk_42 (dk_at dksL_law_50 0 rfl rfl)
theorem dL_law_1295 : decode cL_law 1295 = .ok (.iload 5, 2) := dk_21 5 (dk_at dksL_law_50 1 rfl rfl)
theorem dL_law_1297 : decode cL_law 1297 = .ok (.iconst 2, 1) := dk_5 (dk_at dksL_law_50 3 rfl rfl)
theorem dL_law_1298 : decode cL_law 1298 = .ok (.iadd, 1) := dk_96 (dk_at dksL_law_50 4 rfl rfl)
theorem dL_law_1299 : decode cL_law 1299 = .ok (.iaload, 1) := dk_46 (dk_at dksL_law_50 5 rfl rfl)
theorem dL_law_1300 : decode cL_law 1300 = .ok (.invokevirtual 187, 3) := dk_182 0 187 (dk_at dksL_law_50 6 rfl rfl)
theorem dL_law_1303 : decode cL_law 1303 = .ok (.istore 7, 2) := dk_54 7 (dk_at dksL_law_50 9 rfl rfl)
theorem dL_law_1305 : decode cL_law 1305 = .ok (.aload_n 2, 1) := dk_44 (dk_at dksL_law_50 11 rfl rfl)
theorem dL_law_1306 : decode cL_law 1306 = .ok (.invokevirtual 127, 3) := dk_182 0 127 (dk_at dksL_law_50 12 rfl rfl)
theorem dL_law_1309 : decode cL_law 1309 = .ok (.iload 6, 2) := dk_21 6 (dk_at dksL_law_50 15 rfl rfl)
theorem dL_law_1311 : decode cL_law 1311 = .ok (.if_icmp .eq 5, 3) := dk_159 0 5 (dk_at dksL_law_50 17 rfl rfl)
theorem dL_law_1314 : decode cL_law 1314 = .ok (.iconst 0, 1) := dk_3 (dk_at dksL_law_50 20 rfl rfl)
theorem dL_law_1315 : decode cL_law 1315 = .ok (.ireturn, 1) := dk_172 (dk_at dksL_law_50 21 rfl rfl)
theorem dL_law_1316 : decode cL_law 1316 = .ok (.iload 6, 2) := dk_21 6 (dk_at dksL_law_50 22 rfl rfl)
theorem dL_law_1318 : decode cL_law 1318 = .ok (.ifCond .ne 15, 3) := dk_154 0 15 (dk_at dksL_law_51 0 rfl rfl)
theorem dL_law_1321 : decode cL_law 1321 = .ok (.aload_n 3, 1) := dk_45 (dk_at dksL_law_51 3 rfl rfl)
theorem dL_law_1322 : decode cL_law 1322 = .ok (.iconst 0, 1) := dk_3 (dk_at dksL_law_51 4 rfl rfl)
theorem dL_law_1323 : decode cL_law 1323 = .ok (.laload, 1) := dk_47 (dk_at dksL_law_51 5 rfl rfl)
theorem dL_law_1324 : decode cL_law 1324 = .ok (.iload 7, 2) := dk_21 7 (dk_at dksL_law_51 6 rfl rfl)
theorem dL_law_1326 : decode cL_law 1326 = .ok (.i2l, 1) := dk_133 (dk_at dksL_law_51 8 rfl rfl)
theorem dL_law_1327 : decode cL_law 1327 = .ok (.lcmp, 1) := dk_148 (dk_at dksL_law_51 9 rfl rfl)
theorem dL_law_1328 : decode cL_law 1328 = .ok (.ifCond .eq 5, 3) := dk_153 0 5 (dk_at dksL_law_51 10 rfl rfl)
theorem dL_law_1331 : decode cL_law 1331 = .ok (.iconst 0, 1) := dk_3 (dk_at dksL_law_51 13 rfl rfl)
theorem dL_law_1332 : decode cL_law 1332 = .ok (.ireturn, 1) := dk_172 (dk_at dksL_law_51 14 rfl rfl)
theorem dL_law_1333 : decode cL_law 1333 = .ok (.goto 791, 3) := dk_167 3 23 (dk_at dksL_law_51 15 rfl rfl)
theorem dL_law_1336 : decode cL_law 1336 = .ok (.aload_n 1, 1) := dk_43 (dk_at dksL_law_51 18 rfl rfl)
theorem dL_law_1337 : decode cL_law 1337 = .ok (.aload_n 0, 1) := dk_42 (dk_at dksL_law_51 19 rfl rfl)
theorem dL_law_1338 : decode cL_law 1338 = .ok (.iload 5, 2) := dk_21 5 (dk_at dksL_law_51 20 rfl rfl)
theorem dL_law_1340 : decode cL_law 1340 = .ok (.iconst 1, 1) := dk_4 (dk_at dksL_law_51 22 rfl rfl)
theorem dL_law_1341 : decode cL_law 1341 = .ok (.iadd, 1) := dk_96 (dk_at dksL_law_51 23 rfl rfl)
theorem dL_law_1342 : decode cL_law 1342 = .ok (.iaload, 1) := dk_46 (dk_at dksL_law_52 0 rfl rfl)
theorem dL_law_1343 : decode cL_law 1343 = .ok (.aload_n 0, 1) := dk_42 (dk_at dksL_law_52 1 rfl rfl)
theorem dL_law_1344 : decode cL_law 1344 = .ok (.iload 5, 2) := dk_21 5 (dk_at dksL_law_52 2 rfl rfl)
theorem dL_law_1346 : decode cL_law 1346 = .ok (.iconst 2, 1) := dk_5 (dk_at dksL_law_52 4 rfl rfl)
theorem dL_law_1347 : decode cL_law 1347 = .ok (.iadd, 1) := dk_96 (dk_at dksL_law_52 5 rfl rfl)
theorem dL_law_1348 : decode cL_law 1348 = .ok (.iaload, 1) := dk_46 (dk_at dksL_law_52 6 rfl rfl)
theorem dL_law_1349 : decode cL_law 1349 = .ok (.aload_n 3, 1) := dk_45 (dk_at dksL_law_52 7 rfl rfl)
theorem dL_law_1350 : decode cL_law 1350 = .ok (.invokestatic 188, 3) := dk_184 0 188 (dk_at dksL_law_52 8 rfl rfl)
theorem dL_law_1353 : decode cL_law 1353 = .ok (.istore 6, 2) := dk_54 6 (dk_at dksL_law_52 11 rfl rfl)
theorem dL_law_1355 : decode cL_law 1355 = .ok (.aload_n 2, 1) := dk_44 (dk_at dksL_law_52 13 rfl rfl)
theorem dL_law_1356 : decode cL_law 1356 = .ok (.aload_n 0, 1) := dk_42 (dk_at dksL_law_52 14 rfl rfl)
theorem dL_law_1357 : decode cL_law 1357 = .ok (.iload 5, 2) := dk_21 5 (dk_at dksL_law_52 15 rfl rfl)
theorem dL_law_1359 : decode cL_law 1359 = .ok (.iconst 1, 1) := dk_4 (dk_at dksL_law_52 17 rfl rfl)
theorem dL_law_1360 : decode cL_law 1360 = .ok (.iadd, 1) := dk_96 (dk_at dksL_law_52 18 rfl rfl)
theorem dL_law_1361 : decode cL_law 1361 = .ok (.iaload, 1) := dk_46 (dk_at dksL_law_52 19 rfl rfl)
theorem dL_law_1362 : decode cL_law 1362 = .ok (.aload_n 0, 1) := dk_42 (dk_at dksL_law_52 20 rfl rfl)
theorem dL_law_1363 : decode cL_law 1363 = .ok (.iload 5, 2) := dk_21 5 (dk_at dksL_law_52 21 rfl rfl)
theorem dL_law_1365 : decode cL_law 1365 = .ok (.iconst 2, 1) := dk_5 (dk_at dksL_law_52 23 rfl rfl)
theorem dL_law_1366 : decode cL_law 1366 = .ok (.iadd, 1) := dk_96 (dk_at dksL_law_53 0 rfl rfl)
theorem dL_law_1367 : decode cL_law 1367 = .ok (.iaload, 1) := dk_46 (dk_at dksL_law_53 1 rfl rfl)
theorem dL_law_1368 : decode cL_law 1368 = .ok (.invokevirtual 190, 3) := dk_182 0 190 (dk_at dksL_law_53 2 rfl rfl)
theorem dL_law_1371 : decode cL_law 1371 = .ok (.istore 7, 2) := dk_54 7 (dk_at dksL_law_53 5 rfl rfl)
theorem dL_law_1373 : decode cL_law 1373 = .ok (.aload_n 2, 1) := dk_44 (dk_at dksL_law_53 7 rfl rfl)
theorem dL_law_1374 : decode cL_law 1374 = .ok (.invokevirtual 127, 3) := dk_182 0 127 (dk_at dksL_law_53 8 rfl rfl)
theorem dL_law_1377 : decode cL_law 1377 = .ok (.iload 6, 2) := dk_21 6 (dk_at dksL_law_53 11 rfl rfl)
theorem dL_law_1379 : decode cL_law 1379 = .ok (.if_icmp .eq 5, 3) := dk_159 0 5 (dk_at dksL_law_53 13 rfl rfl)
theorem dL_law_1382 : decode cL_law 1382 = .ok (.iconst 0, 1) := dk_3 (dk_at dksL_law_53 16 rfl rfl)
theorem dL_law_1383 : decode cL_law 1383 = .ok (.ireturn, 1) := dk_172 (dk_at dksL_law_53 17 rfl rfl)
theorem dL_law_1384 : decode cL_law 1384 = .ok (.iload 6, 2) := dk_21 6 (dk_at dksL_law_53 18 rfl rfl)
theorem dL_law_1386 : decode cL_law 1386 = .ok (.ifCond .ne 22, 3) := dk_154 0 22 (dk_at dksL_law_53 20 rfl rfl)
theorem dL_law_1389 : decode cL_law 1389 = .ok (.aload_n 3, 1) := dk_45 (dk_at dksL_law_53 23 rfl rfl)
theorem dL_law_1390 : decode cL_law 1390 = .ok (.iconst 0, 1) := dk_3 (dk_at dksL_law_54 0 rfl rfl)
theorem dL_law_1391 : decode cL_law 1391 = .ok (.laload, 1) := dk_47 (dk_at dksL_law_54 1 rfl rfl)
theorem dL_law_1392 : decode cL_law 1392 = .ok (.iload 7, 2) := dk_21 7 (dk_at dksL_law_54 2 rfl rfl)
theorem dL_law_1394 : decode cL_law 1394 = .ok (.ifCond .eq 7, 3) := dk_153 0 7 (dk_at dksL_law_54 4 rfl rfl)
theorem dL_law_1397 : decode cL_law 1397 = .ok (.lconst 1, 1) := dk_10 (dk_at dksL_law_54 7 rfl rfl)
theorem dL_law_1398 : decode cL_law 1398 = .ok (.goto 4, 3) := dk_167 0 4 (dk_at dksL_law_54 8 rfl rfl)
theorem dL_law_1401 : decode cL_law 1401 = .ok (.lconst 0, 1) := dk_9 (dk_at dksL_law_54 11 rfl rfl)
theorem dL_law_1402 : decode cL_law 1402 = .ok (.lcmp, 1) := dk_148 (dk_at dksL_law_54 12 rfl rfl)
theorem dL_law_1403 : decode cL_law 1403 = .ok (.ifCond .eq 5, 3) := dk_153 0 5 (dk_at dksL_law_54 13 rfl rfl)
theorem dL_law_1406 : decode cL_law 1406 = .ok (.iconst 0, 1) := dk_3 (dk_at dksL_law_54 16 rfl rfl)
theorem dL_law_1407 : decode cL_law 1407 = .ok (.ireturn, 1) := dk_172 (dk_at dksL_law_54 17 rfl rfl)
theorem dL_law_1408 : decode cL_law 1408 = .ok (.goto 716, 3) := dk_167 2 204 (dk_at dksL_law_54 18 rfl rfl)
theorem dL_law_1411 : decode cL_law 1411 = .ok (.aload_n 1, 1) := dk_43 (dk_at dksL_law_54 21 rfl rfl)
theorem dL_law_1412 : decode cL_law 1412 = .ok (.aload_n 0, 1) := dk_42 (dk_at dksL_law_54 22 rfl rfl)
theorem dL_law_1413 : decode cL_law 1413 = .ok (.iload 5, 2) := dk_21 5 (dk_at dksL_law_55 0 rfl rfl)
theorem dL_law_1415 : decode cL_law 1415 = .ok (.iconst 1, 1) := dk_4 (dk_at dksL_law_55 2 rfl rfl)
theorem dL_law_1416 : decode cL_law 1416 = .ok (.iadd, 1) := dk_96 (dk_at dksL_law_55 3 rfl rfl)
theorem dL_law_1417 : decode cL_law 1417 = .ok (.iaload, 1) := dk_46 (dk_at dksL_law_55 4 rfl rfl)
theorem dL_law_1418 : decode cL_law 1418 = .ok (.ifCond .eq 7, 3) := dk_153 0 7 (dk_at dksL_law_55 5 rfl rfl)
theorem dL_law_1421 : decode cL_law 1421 = .ok (.iconst 1, 1) := dk_4 (dk_at dksL_law_55 8 rfl rfl)
theorem dL_law_1422 : decode cL_law 1422 = .ok (.goto 4, 3) := dk_167 0 4 (dk_at dksL_law_55 9 rfl rfl)
theorem dL_law_1425 : decode cL_law 1425 = .ok (.iconst 0, 1) := dk_3 (dk_at dksL_law_55 12 rfl rfl)
theorem dL_law_1426 : decode cL_law 1426 = .ok (.aload_n 0, 1) := dk_42 (dk_at dksL_law_55 13 rfl rfl)
theorem dL_law_1427 : decode cL_law 1427 = .ok (.iload 5, 2) := dk_21 5 (dk_at dksL_law_55 14 rfl rfl)
theorem dL_law_1429 : decode cL_law 1429 = .ok (.iconst 2, 1) := dk_5 (dk_at dksL_law_55 16 rfl rfl)
theorem dL_law_1430 : decode cL_law 1430 = .ok (.iadd, 1) := dk_96 (dk_at dksL_law_55 17 rfl rfl)
theorem dL_law_1431 : decode cL_law 1431 = .ok (.iaload, 1) := dk_46 (dk_at dksL_law_55 18 rfl rfl)
theorem dL_law_1432 : decode cL_law 1432 = .ok (.ifCond .eq 7, 3) := dk_153 0 7 (dk_at dksL_law_55 19 rfl rfl)
theorem dL_law_1435 : decode cL_law 1435 = .ok (.iconst 1, 1) := dk_4 (dk_at dksL_law_55 22 rfl rfl)
theorem dL_law_1436 : decode cL_law 1436 = .ok (.goto 4, 3) := dk_167 0 4 (dk_at dksL_law_56 0 rfl rfl)
theorem dL_law_1439 : decode cL_law 1439 = .ok (.iconst 0, 1) := dk_3 (dk_at dksL_law_56 3 rfl rfl)
theorem dL_law_1440 : decode cL_law 1440 = .ok (.aload_n 3, 1) := dk_45 (dk_at dksL_law_56 4 rfl rfl)
theorem dL_law_1441 : decode cL_law 1441 = .ok (.invokestatic 191, 3) := dk_184 0 191 (dk_at dksL_law_56 5 rfl rfl)
theorem dL_law_1444 : decode cL_law 1444 = .ok (.istore 6, 2) := dk_54 6 (dk_at dksL_law_56 8 rfl rfl)
theorem dL_law_1446 : decode cL_law 1446 = .ok (.aload_n 2, 1) := dk_44 (dk_at dksL_law_56 10 rfl rfl)
theorem dL_law_1447 : decode cL_law 1447 = .ok (.aload_n 0, 1) := dk_42 (dk_at dksL_law_56 11 rfl rfl)
theorem dL_law_1448 : decode cL_law 1448 = .ok (.iload 5, 2) := dk_21 5 (dk_at dksL_law_56 12 rfl rfl)
theorem dL_law_1450 : decode cL_law 1450 = .ok (.iconst 1, 1) := dk_4 (dk_at dksL_law_56 14 rfl rfl)
theorem dL_law_1451 : decode cL_law 1451 = .ok (.iadd, 1) := dk_96 (dk_at dksL_law_56 15 rfl rfl)
theorem dL_law_1452 : decode cL_law 1452 = .ok (.iaload, 1) := dk_46 (dk_at dksL_law_56 16 rfl rfl)
theorem dL_law_1453 : decode cL_law 1453 = .ok (.ifCond .eq 7, 3) := dk_153 0 7 (dk_at dksL_law_56 17 rfl rfl)
theorem dL_law_1456 : decode cL_law 1456 = .ok (.iconst 1, 1) := dk_4 (dk_at dksL_law_56 20 rfl rfl)
theorem dL_law_1457 : decode cL_law 1457 = .ok (.goto 4, 3) := dk_167 0 4 (dk_at dksL_law_56 21 rfl rfl)
theorem dL_law_1460 : decode cL_law 1460 = .ok (.iconst 0, 1) := dk_3 (dk_at dksL_law_57 0 rfl rfl)
theorem dL_law_1461 : decode cL_law 1461 = .ok (.aload_n 0, 1) := dk_42 (dk_at dksL_law_57 1 rfl rfl)
theorem dL_law_1462 : decode cL_law 1462 = .ok (.iload 5, 2) := dk_21 5 (dk_at dksL_law_57 2 rfl rfl)
theorem dL_law_1464 : decode cL_law 1464 = .ok (.iconst 2, 1) := dk_5 (dk_at dksL_law_57 4 rfl rfl)
theorem dL_law_1465 : decode cL_law 1465 = .ok (.iadd, 1) := dk_96 (dk_at dksL_law_57 5 rfl rfl)
theorem dL_law_1466 : decode cL_law 1466 = .ok (.iaload, 1) := dk_46 (dk_at dksL_law_57 6 rfl rfl)
theorem dL_law_1467 : decode cL_law 1467 = .ok (.ifCond .eq 7, 3) := dk_153 0 7 (dk_at dksL_law_57 7 rfl rfl)
theorem dL_law_1470 : decode cL_law 1470 = .ok (.iconst 1, 1) := dk_4 (dk_at dksL_law_57 10 rfl rfl)
theorem dL_law_1471 : decode cL_law 1471 = .ok (.goto 4, 3) := dk_167 0 4 (dk_at dksL_law_57 11 rfl rfl)
theorem dL_law_1474 : decode cL_law 1474 = .ok (.iconst 0, 1) := dk_3 (dk_at dksL_law_57 14 rfl rfl)
theorem dL_law_1475 : decode cL_law 1475 = .ok (.invokevirtual 194, 3) := dk_182 0 194 (dk_at dksL_law_57 15 rfl rfl)
theorem dL_law_1478 : decode cL_law 1478 = .ok (.istore 7, 2) := dk_54 7 (dk_at dksL_law_57 18 rfl rfl)
theorem dL_law_1480 : decode cL_law 1480 = .ok (.aload_n 2, 1) := dk_44 (dk_at dksL_law_57 20 rfl rfl)
theorem dL_law_1481 : decode cL_law 1481 = .ok (.invokevirtual 127, 3) := dk_182 0 127 (dk_at dksL_law_57 21 rfl rfl)
theorem dL_law_1484 : decode cL_law 1484 = .ok (.iload 6, 2) := dk_21 6 (dk_at dksL_law_58 0 rfl rfl)
theorem dL_law_1486 : decode cL_law 1486 = .ok (.if_icmp .eq 5, 3) := dk_159 0 5 (dk_at dksL_law_58 2 rfl rfl)
theorem dL_law_1489 : decode cL_law 1489 = .ok (.iconst 0, 1) := dk_3 (dk_at dksL_law_58 5 rfl rfl)
theorem dL_law_1490 : decode cL_law 1490 = .ok (.ireturn, 1) := dk_172 (dk_at dksL_law_58 6 rfl rfl)
theorem dL_law_1491 : decode cL_law 1491 = .ok (.iload 6, 2) := dk_21 6 (dk_at dksL_law_58 7 rfl rfl)
theorem dL_law_1493 : decode cL_law 1493 = .ok (.ifCond .ne 15, 3) := dk_154 0 15 (dk_at dksL_law_58 9 rfl rfl)
theorem dL_law_1496 : decode cL_law 1496 = .ok (.aload_n 3, 1) := dk_45 (dk_at dksL_law_58 12 rfl rfl)
theorem dL_law_1497 : decode cL_law 1497 = .ok (.iconst 0, 1) := dk_3 (dk_at dksL_law_58 13 rfl rfl)
theorem dL_law_1498 : decode cL_law 1498 = .ok (.laload, 1) := dk_47 (dk_at dksL_law_58 14 rfl rfl)
theorem dL_law_1499 : decode cL_law 1499 = .ok (.iload 7, 2) := dk_21 7 (dk_at dksL_law_58 15 rfl rfl)
theorem dL_law_1501 : decode cL_law 1501 = .ok (.i2l, 1) := dk_133 (dk_at dksL_law_58 17 rfl rfl)
theorem dL_law_1502 : decode cL_law 1502 = .ok (.lcmp, 1) := dk_148 (dk_at dksL_law_58 18 rfl rfl)
theorem dL_law_1503 : decode cL_law 1503 = .ok (.ifCond .eq 5, 3) := dk_153 0 5 (dk_at dksL_law_58 19 rfl rfl)
theorem dL_law_1506 : decode cL_law 1506 = .ok (.iconst 0, 1) := dk_3 (dk_at dksL_law_58 22 rfl rfl)
theorem dL_law_1507 : decode cL_law 1507 = .ok (.ireturn, 1) := dk_172 (dk_at dksL_law_58 23 rfl rfl)
theorem dL_law_1508 : decode cL_law 1508 = .ok (.goto 616, 3) := dk_167 2 104 (dk_at dksL_law_59 0 rfl rfl)
theorem dL_law_1511 : decode cL_law 1511 = .ok (.aload_n 1, 1) := dk_43 (dk_at dksL_law_59 3 rfl rfl)
theorem dL_law_1512 : decode cL_law 1512 = .ok (.aload_n 0, 1) := dk_42 (dk_at dksL_law_59 4 rfl rfl)
theorem dL_law_1513 : decode cL_law 1513 = .ok (.iload 5, 2) := dk_21 5 (dk_at dksL_law_59 5 rfl rfl)
theorem dL_law_1515 : decode cL_law 1515 = .ok (.iconst 1, 1) := dk_4 (dk_at dksL_law_59 7 rfl rfl)
theorem dL_law_1516 : decode cL_law 1516 = .ok (.iadd, 1) := dk_96 (dk_at dksL_law_59 8 rfl rfl)
theorem dL_law_1517 : decode cL_law 1517 = .ok (.iaload, 1) := dk_46 (dk_at dksL_law_59 9 rfl rfl)
theorem dL_law_1518 : decode cL_law 1518 = .ok (.aload 4, 2) := dk_25 4 (dk_at dksL_law_59 10 rfl rfl)
theorem dL_law_1520 : decode cL_law 1520 = .ok (.invokestatic 195, 3) := dk_184 0 195 (dk_at dksL_law_59 12 rfl rfl)
theorem dL_law_1523 : decode cL_law 1523 = .ok (.istore 6, 2) := dk_54 6 (dk_at dksL_law_59 15 rfl rfl)
theorem dL_law_1525 : decode cL_law 1525 = .ok (.aload_n 2, 1) := dk_44 (dk_at dksL_law_59 17 rfl rfl)
theorem dL_law_1526 : decode cL_law 1526 = .ok (.aload_n 0, 1) := dk_42 (dk_at dksL_law_59 18 rfl rfl)
theorem dL_law_1527 : decode cL_law 1527 = .ok (.iload 5, 2) := dk_21 5 (dk_at dksL_law_59 19 rfl rfl)
theorem dL_law_1529 : decode cL_law 1529 = .ok (.iconst 1, 1) := dk_4 (dk_at dksL_law_59 21 rfl rfl)
theorem dL_law_1530 : decode cL_law 1530 = .ok (.iadd, 1) := dk_96 (dk_at dksL_law_59 22 rfl rfl)
theorem dL_law_1531 : decode cL_law 1531 = .ok (.iaload, 1) := dk_46 (dk_at dksL_law_59 23 rfl rfl)
theorem dL_law_1532 : decode cL_law 1532 = .ok (.invokevirtual 197, 3) := dk_182 0 197 (dk_at dksL_law_60 0 rfl rfl)
theorem dL_law_1535 : decode cL_law 1535 = .ok (.fstore 7, 2) := dk_56 7 (dk_at dksL_law_60 3 rfl rfl)
theorem dL_law_1537 : decode cL_law 1537 = .ok (.aload_n 2, 1) := dk_44 (dk_at dksL_law_60 5 rfl rfl)
theorem dL_law_1538 : decode cL_law 1538 = .ok (.invokevirtual 127, 3) := dk_182 0 127 (dk_at dksL_law_60 6 rfl rfl)
theorem dL_law_1541 : decode cL_law 1541 = .ok (.iload 6, 2) := dk_21 6 (dk_at dksL_law_60 9 rfl rfl)
theorem dL_law_1543 : decode cL_law 1543 = .ok (.if_icmp .eq 5, 3) := dk_159 0 5 (dk_at dksL_law_60 11 rfl rfl)
theorem dL_law_1546 : decode cL_law 1546 = .ok (.iconst 0, 1) := dk_3 (dk_at dksL_law_60 14 rfl rfl)
theorem dL_law_1547 : decode cL_law 1547 = .ok (.ireturn, 1) := dk_172 (dk_at dksL_law_60 15 rfl rfl)
theorem dL_law_1548 : decode cL_law 1548 = .ok (.iload 6, 2) := dk_21 6 (dk_at dksL_law_60 16 rfl rfl)
theorem dL_law_1550 : decode cL_law 1550 = .ok (.ifCond .ne 36, 3) := dk_154 0 36 (dk_at dksL_law_60 18 rfl rfl)
theorem dL_law_1553 : decode cL_law 1553 = .ok (.aload 4, 2) := dk_25 4 (dk_at dksL_law_60 21 rfl rfl)
theorem dL_law_1555 : decode cL_law 1555 = .ok (.iconst 0, 1) := dk_3 (dk_at dksL_law_60 23 rfl rfl)
theorem dL_law_1556 : decode cL_law 1556 = .ok (.daload, 1) := dk_49 (dk_at dksL_law_61 0 rfl rfl)
theorem dL_law_1557 : decode cL_law 1557 = .ok (.fload 7, 2) := dk_23 7 (dk_at dksL_law_61 1 rfl rfl)
theorem dL_law_1559 : decode cL_law 1559 = .ok (.f2d, 1) := dk_141 (dk_at dksL_law_61 3 rfl rfl)
theorem dL_law_1560 : decode cL_law 1560 = .ok (.dcmp .l, 1) := dk_151 (dk_at dksL_law_61 4 rfl rfl)
theorem dL_law_1561 : decode cL_law 1561 = .ok (.ifCond .eq 25, 3) := dk_153 0 25 (dk_at dksL_law_61 5 rfl rfl)
theorem dL_law_1564 : decode cL_law 1564 = .ok (.aload 4, 2) := dk_25 4 (dk_at dksL_law_61 8 rfl rfl)
theorem dL_law_1566 : decode cL_law 1566 = .ok (.iconst 0, 1) := dk_3 (dk_at dksL_law_61 10 rfl rfl)
theorem dL_law_1567 : decode cL_law 1567 = .ok (.daload, 1) := dk_49 (dk_at dksL_law_61 11 rfl rfl)
theorem dL_law_1568 : decode cL_law 1568 = .ok (.aload 4, 2) := dk_25 4 (dk_at dksL_law_61 12 rfl rfl)
theorem dL_law_1570 : decode cL_law 1570 = .ok (.iconst 0, 1) := dk_3 (dk_at dksL_law_61 14 rfl rfl)
theorem dL_law_1571 : decode cL_law 1571 = .ok (.daload, 1) := dk_49 (dk_at dksL_law_61 15 rfl rfl)
theorem dL_law_1572 : decode cL_law 1572 = .ok (.dcmp .l, 1) := dk_151 (dk_at dksL_law_61 16 rfl rfl)
theorem dL_law_1573 : decode cL_law 1573 = .ok (.ifCond .eq 11, 3) := dk_153 0 11 (dk_at dksL_law_61 17 rfl rfl)
theorem dL_law_1576 : decode cL_law 1576 = .ok (.fload 7, 2) := dk_23 7 (dk_at dksL_law_61 20 rfl rfl)
theorem dL_law_1578 : decode cL_law 1578 = .ok (.fload 7, 2) := dk_23 7 (dk_at dksL_law_61 22 rfl rfl)
theorem dL_law_1580 : decode cL_law 1580 = .ok (.fcmp .l, 1) := dk_149 (dk_at dksL_law_62 0 rfl rfl)
theorem dL_law_1581 : decode cL_law 1581 = .ok (.ifCond .ne 5, 3) := dk_154 0 5 (dk_at dksL_law_62 1 rfl rfl)
theorem dL_law_1584 : decode cL_law 1584 = .ok (.iconst 0, 1) := dk_3 (dk_at dksL_law_62 4 rfl rfl)
theorem dL_law_1585 : decode cL_law 1585 = .ok (.ireturn, 1) := dk_172 (dk_at dksL_law_62 5 rfl rfl)
theorem dL_law_1586 : decode cL_law 1586 = .ok (.goto 538, 3) := dk_167 2 26 (dk_at dksL_law_62 6 rfl rfl)
theorem dL_law_1589 : decode cL_law 1589 = .ok (.aload_n 1, 1) := dk_43 (dk_at dksL_law_62 9 rfl rfl)
theorem dL_law_1590 : decode cL_law 1590 = .ok (.aload_n 3, 1) := dk_45 (dk_at dksL_law_62 10 rfl rfl)
theorem dL_law_1591 : decode cL_law 1591 = .ok (.invokestatic 198, 3) := dk_184 0 198 (dk_at dksL_law_62 11 rfl rfl)
theorem dL_law_1594 : decode cL_law 1594 = .ok (.istore 6, 2) := dk_54 6 (dk_at dksL_law_62 14 rfl rfl)
theorem dL_law_1596 : decode cL_law 1596 = .ok (.aload_n 2, 1) := dk_44 (dk_at dksL_law_62 16 rfl rfl)
theorem dL_law_1597 : decode cL_law 1597 = .ok (.invokevirtual 201, 3) := dk_182 0 201 (dk_at dksL_law_62 17 rfl rfl)
theorem dL_law_1600 : decode cL_law 1600 = .ok (.istore 7, 2) := dk_54 7 (dk_at dksL_law_62 20 rfl rfl)
theorem dL_law_1602 : decode cL_law 1602 = .ok (.aload_n 2, 1) := dk_44 (dk_at dksL_law_62 22 rfl rfl)
theorem dL_law_1603 : decode cL_law 1603 = .ok (.invokevirtual 127, 3) := dk_182 0 127 (dk_at dksL_law_63 0 rfl rfl)
theorem dL_law_1606 : decode cL_law 1606 = .ok (.iload 6, 2) := dk_21 6 (dk_at dksL_law_63 3 rfl rfl)
theorem dL_law_1608 : decode cL_law 1608 = .ok (.if_icmp .eq 5, 3) := dk_159 0 5 (dk_at dksL_law_63 5 rfl rfl)
theorem dL_law_1611 : decode cL_law 1611 = .ok (.iconst 0, 1) := dk_3 (dk_at dksL_law_63 8 rfl rfl)
theorem dL_law_1612 : decode cL_law 1612 = .ok (.ireturn, 1) := dk_172 (dk_at dksL_law_63 9 rfl rfl)
theorem dL_law_1613 : decode cL_law 1613 = .ok (.iload 6, 2) := dk_21 6 (dk_at dksL_law_63 10 rfl rfl)
theorem dL_law_1615 : decode cL_law 1615 = .ok (.ifCond .ne 15, 3) := dk_154 0 15 (dk_at dksL_law_63 12 rfl rfl)
theorem dL_law_1618 : decode cL_law 1618 = .ok (.aload_n 3, 1) := dk_45 (dk_at dksL_law_63 15 rfl rfl)
theorem dL_law_1619 : decode cL_law 1619 = .ok (.iconst 0, 1) := dk_3 (dk_at dksL_law_63 16 rfl rfl)
theorem dL_law_1620 : decode cL_law 1620 = .ok (.laload, 1) := dk_47 (dk_at dksL_law_63 17 rfl rfl)
theorem dL_law_1621 : decode cL_law 1621 = .ok (.iload 7, 2) := dk_21 7 (dk_at dksL_law_63 18 rfl rfl)
theorem dL_law_1623 : decode cL_law 1623 = .ok (.i2l, 1) := dk_133 (dk_at dksL_law_63 20 rfl rfl)
theorem dL_law_1624 : decode cL_law 1624 = .ok (.lcmp, 1) := dk_148 (dk_at dksL_law_63 21 rfl rfl)
theorem dL_law_1625 : decode cL_law 1625 = .ok (.ifCond .eq 5, 3) := dk_153 0 5 (dk_at dksL_law_64 0 rfl rfl)
theorem dL_law_1628 : decode cL_law 1628 = .ok (.iconst 0, 1) := dk_3 (dk_at dksL_law_64 3 rfl rfl)
theorem dL_law_1629 : decode cL_law 1629 = .ok (.ireturn, 1) := dk_172 (dk_at dksL_law_64 4 rfl rfl)
theorem dL_law_1630 : decode cL_law 1630 = .ok (.goto 494, 3) := dk_167 1 238 (dk_at dksL_law_64 5 rfl rfl)
theorem dL_law_1633 : decode cL_law 1633 = .ok (.aload_n 1, 1) := dk_43 (dk_at dksL_law_64 8 rfl rfl)
theorem dL_law_1634 : decode cL_law 1634 = .ok (.invokevirtual 202, 3) := dk_182 0 202 (dk_at dksL_law_64 9 rfl rfl)
theorem dL_law_1637 : decode cL_law 1637 = .ok (.aload_n 2, 1) := dk_44 (dk_at dksL_law_64 12 rfl rfl)
theorem dL_law_1638 : decode cL_law 1638 = .ok (.invokevirtual 205, 3) := dk_182 0 205 (dk_at dksL_law_64 13 rfl rfl)
theorem dL_law_1641 : decode cL_law 1641 = .ok (.if_icmp .eq 483, 3) := dk_159 1 227 (dk_at dksL_law_64 16 rfl rfl)
theorem dL_law_1644 : decode cL_law 1644 = .ok (.iconst 0, 1) := dk_3 (dk_at dksL_law_64 19 rfl rfl)
theorem dL_law_1645 : decode cL_law 1645 = .ok (.ireturn, 1) := dk_172 (dk_at dksL_law_64 20 rfl rfl)
theorem dL_law_1646 : decode cL_law 1646 = .ok (.aload_n 1, 1) := dk_43 (dk_at dksL_law_64 21 rfl rfl)
theorem dL_law_1647 : decode cL_law 1647 = .ok (.aload_n 0, 1) := dk_42 (dk_at dksL_law_64 22 rfl rfl)
theorem dL_law_1648 : decode cL_law 1648 = .ok (.iload 5, 2) := dk_21 5 (dk_at dksL_law_65 0 rfl rfl)
theorem dL_law_1650 : decode cL_law 1650 = .ok (.iconst 1, 1) := dk_4 (dk_at dksL_law_65 2 rfl rfl)
theorem dL_law_1651 : decode cL_law 1651 = .ok (.iadd, 1) := dk_96 (dk_at dksL_law_65 3 rfl rfl)
theorem dL_law_1652 : decode cL_law 1652 = .ok (.iaload, 1) := dk_46 (dk_at dksL_law_65 4 rfl rfl)
theorem dL_law_1653 : decode cL_law 1653 = .ok (.aload_n 3, 1) := dk_45 (dk_at dksL_law_65 5 rfl rfl)
theorem dL_law_1654 : decode cL_law 1654 = .ok (.invokestatic 206, 3) := dk_184 0 206 (dk_at dksL_law_65 6 rfl rfl)
theorem dL_law_1657 : decode cL_law 1657 = .ok (.istore 6, 2) := dk_54 6 (dk_at dksL_law_65 9 rfl rfl)
theorem dL_law_1659 : decode cL_law 1659 = .ok (.aload_n 2, 1) := dk_44 (dk_at dksL_law_65 11 rfl rfl)
theorem dL_law_1660 : decode cL_law 1660 = .ok (.aload_n 0, 1) := dk_42 (dk_at dksL_law_65 12 rfl rfl)
theorem dL_law_1661 : decode cL_law 1661 = .ok (.iload 5, 2) := dk_21 5 (dk_at dksL_law_65 13 rfl rfl)
theorem dL_law_1663 : decode cL_law 1663 = .ok (.iconst 1, 1) := dk_4 (dk_at dksL_law_65 15 rfl rfl)
theorem dL_law_1664 : decode cL_law 1664 = .ok (.iadd, 1) := dk_96 (dk_at dksL_law_65 16 rfl rfl)
theorem dL_law_1665 : decode cL_law 1665 = .ok (.iaload, 1) := dk_46 (dk_at dksL_law_65 17 rfl rfl)
theorem dL_law_1666 : decode cL_law 1666 = .ok (.invokevirtual 208, 3) := dk_182 0 208 (dk_at dksL_law_65 18 rfl rfl)
theorem dL_law_1669 : decode cL_law 1669 = .ok (.istore 7, 2) := dk_54 7 (dk_at dksL_law_65 21 rfl rfl)
theorem dL_law_1671 : decode cL_law 1671 = .ok (.aload_n 2, 1) := dk_44 (dk_at dksL_law_65 23 rfl rfl)
theorem dL_law_1672 : decode cL_law 1672 = .ok (.invokevirtual 127, 3) := dk_182 0 127 (dk_at dksL_law_66 0 rfl rfl)
theorem dL_law_1675 : decode cL_law 1675 = .ok (.iload 6, 2) := dk_21 6 (dk_at dksL_law_66 3 rfl rfl)
theorem dL_law_1677 : decode cL_law 1677 = .ok (.if_icmp .eq 5, 3) := dk_159 0 5 (dk_at dksL_law_66 5 rfl rfl)
theorem dL_law_1680 : decode cL_law 1680 = .ok (.iconst 0, 1) := dk_3 (dk_at dksL_law_66 8 rfl rfl)
theorem dL_law_1681 : decode cL_law 1681 = .ok (.ireturn, 1) := dk_172 (dk_at dksL_law_66 9 rfl rfl)
theorem dL_law_1682 : decode cL_law 1682 = .ok (.iload 6, 2) := dk_21 6 (dk_at dksL_law_66 10 rfl rfl)
theorem dL_law_1684 : decode cL_law 1684 = .ok (.ifCond .ne 15, 3) := dk_154 0 15 (dk_at dksL_law_66 12 rfl rfl)
theorem dL_law_1687 : decode cL_law 1687 = .ok (.aload_n 3, 1) := dk_45 (dk_at dksL_law_66 15 rfl rfl)
theorem dL_law_1688 : decode cL_law 1688 = .ok (.iconst 0, 1) := dk_3 (dk_at dksL_law_66 16 rfl rfl)
theorem dL_law_1689 : decode cL_law 1689 = .ok (.laload, 1) := dk_47 (dk_at dksL_law_66 17 rfl rfl)
theorem dL_law_1690 : decode cL_law 1690 = .ok (.iload 7, 2) := dk_21 7 (dk_at dksL_law_66 18 rfl rfl)
theorem dL_law_1692 : decode cL_law 1692 = .ok (.i2l, 1) := dk_133 (dk_at dksL_law_66 20 rfl rfl)
theorem dL_law_1693 : decode cL_law 1693 = .ok (.lcmp, 1) := dk_148 (dk_at dksL_law_66 21 rfl rfl)
theorem dL_law_1694 : decode cL_law 1694 = .ok (.ifCond .eq 5, 3) := dk_153 0 5 (dk_at dksL_law_67 0 rfl rfl)
theorem dL_law_1697 : decode cL_law 1697 = .ok (.iconst 0, 1) := dk_3 (dk_at dksL_law_67 3 rfl rfl)
theorem dL_law_1698 : decode cL_law 1698 = .ok (.ireturn, 1) := dk_172 (dk_at dksL_law_67 4 rfl rfl)
theorem dL_law_1699 : decode cL_law 1699 = .ok (.goto 425, 3) := dk_167 1 169 (dk_at dksL_law_67 5 rfl rfl)
theorem dL_law_1702 : decode cL_law 1702 = .ok (.aload_n 1, 1) := dk_43 (dk_at dksL_law_67 8 rfl rfl)
theorem dL_law_1703 : decode cL_law 1703 = .ok (.aload_n 0, 1) := dk_42 (dk_at dksL_law_67 9 rfl rfl)
theorem dL_law_1704 : decode cL_law 1704 = .ok (.iload 5, 2) := dk_21 5 (dk_at dksL_law_67 10 rfl rfl)
theorem dL_law_1706 : decode cL_law 1706 = .ok (.iconst 1, 1) := dk_4 (dk_at dksL_law_67 12 rfl rfl)
theorem dL_law_1707 : decode cL_law 1707 = .ok (.iadd, 1) := dk_96 (dk_at dksL_law_67 13 rfl rfl)
theorem dL_law_1708 : decode cL_law 1708 = .ok (.iaload, 1) := dk_46 (dk_at dksL_law_67 14 rfl rfl)
theorem dL_law_1709 : decode cL_law 1709 = .ok (.i2c, 1) := dk_146 (dk_at dksL_law_67 15 rfl rfl)
theorem dL_law_1710 : decode cL_law 1710 = .ok (.aload_n 3, 1) := dk_45 (dk_at dksL_law_67 16 rfl rfl)
theorem dL_law_1711 : decode cL_law 1711 = .ok (.invokestatic 209, 3) := dk_184 0 209 (dk_at dksL_law_67 17 rfl rfl)
theorem dL_law_1714 : decode cL_law 1714 = .ok (.istore 6, 2) := dk_54 6 (dk_at dksL_law_67 20 rfl rfl)
theorem dL_law_1716 : decode cL_law 1716 = .ok (.aload_n 2, 1) := dk_44 (dk_at dksL_law_67 22 rfl rfl)
theorem dL_law_1717 : decode cL_law 1717 = .ok (.aload_n 0, 1) := dk_42 (dk_at dksL_law_67 23 rfl rfl)
theorem dL_law_1718 : decode cL_law 1718 = .ok (.iload 5, 2) := dk_21 5 (dk_at dksL_law_68 0 rfl rfl)
theorem dL_law_1720 : decode cL_law 1720 = .ok (.iconst 1, 1) := dk_4 (dk_at dksL_law_68 2 rfl rfl)
theorem dL_law_1721 : decode cL_law 1721 = .ok (.iadd, 1) := dk_96 (dk_at dksL_law_68 3 rfl rfl)
theorem dL_law_1722 : decode cL_law 1722 = .ok (.iaload, 1) := dk_46 (dk_at dksL_law_68 4 rfl rfl)
theorem dL_law_1723 : decode cL_law 1723 = .ok (.i2c, 1) := dk_146 (dk_at dksL_law_68 5 rfl rfl)
theorem dL_law_1724 : decode cL_law 1724 = .ok (.invokevirtual 212, 3) := dk_182 0 212 (dk_at dksL_law_68 6 rfl rfl)
theorem dL_law_1727 : decode cL_law 1727 = .ok (.istore 7, 2) := dk_54 7 (dk_at dksL_law_68 9 rfl rfl)
theorem dL_law_1729 : decode cL_law 1729 = .ok (.aload_n 2, 1) := dk_44 (dk_at dksL_law_68 11 rfl rfl)
theorem dL_law_1730 : decode cL_law 1730 = .ok (.invokevirtual 127, 3) := dk_182 0 127 (dk_at dksL_law_68 12 rfl rfl)
theorem dL_law_1733 : decode cL_law 1733 = .ok (.iload 6, 2) := dk_21 6 (dk_at dksL_law_68 15 rfl rfl)
theorem dL_law_1735 : decode cL_law 1735 = .ok (.if_icmp .eq 5, 3) := dk_159 0 5 (dk_at dksL_law_68 17 rfl rfl)
theorem dL_law_1738 : decode cL_law 1738 = .ok (.iconst 0, 1) := dk_3 (dk_at dksL_law_68 20 rfl rfl)
theorem dL_law_1739 : decode cL_law 1739 = .ok (.ireturn, 1) := dk_172 (dk_at dksL_law_68 21 rfl rfl)
theorem dL_law_1740 : decode cL_law 1740 = .ok (.iload 6, 2) := dk_21 6 (dk_at dksL_law_68 22 rfl rfl)
theorem dL_law_1742 : decode cL_law 1742 = .ok (.ifCond .ne 15, 3) := dk_154 0 15 (dk_at dksL_law_69 0 rfl rfl)
theorem dL_law_1745 : decode cL_law 1745 = .ok (.aload_n 3, 1) := dk_45 (dk_at dksL_law_69 3 rfl rfl)
theorem dL_law_1746 : decode cL_law 1746 = .ok (.iconst 0, 1) := dk_3 (dk_at dksL_law_69 4 rfl rfl)
theorem dL_law_1747 : decode cL_law 1747 = .ok (.laload, 1) := dk_47 (dk_at dksL_law_69 5 rfl rfl)
theorem dL_law_1748 : decode cL_law 1748 = .ok (.iload 7, 2) := dk_21 7 (dk_at dksL_law_69 6 rfl rfl)
theorem dL_law_1750 : decode cL_law 1750 = .ok (.i2l, 1) := dk_133 (dk_at dksL_law_69 8 rfl rfl)
theorem dL_law_1751 : decode cL_law 1751 = .ok (.lcmp, 1) := dk_148 (dk_at dksL_law_69 9 rfl rfl)
theorem dL_law_1752 : decode cL_law 1752 = .ok (.ifCond .eq 5, 3) := dk_153 0 5 (dk_at dksL_law_69 10 rfl rfl)
theorem dL_law_1755 : decode cL_law 1755 = .ok (.iconst 0, 1) := dk_3 (dk_at dksL_law_69 13 rfl rfl)
theorem dL_law_1756 : decode cL_law 1756 = .ok (.ireturn, 1) := dk_172 (dk_at dksL_law_69 14 rfl rfl)
theorem dL_law_1757 : decode cL_law 1757 = .ok (.goto 367, 3) := dk_167 1 111 (dk_at dksL_law_69 15 rfl rfl)
theorem dL_law_1760 : decode cL_law 1760 = .ok (.aload_n 1, 1) := dk_43 (dk_at dksL_law_69 18 rfl rfl)
theorem dL_law_1761 : decode cL_law 1761 = .ok (.aload_n 3, 1) := dk_45 (dk_at dksL_law_69 19 rfl rfl)
theorem dL_law_1762 : decode cL_law 1762 = .ok (.invokestatic 213, 3) := dk_184 0 213 (dk_at dksL_law_69 20 rfl rfl)
theorem dL_law_1765 : decode cL_law 1765 = .ok (.istore 6, 2) := dk_54 6 (dk_at dksL_law_70 0 rfl rfl)
theorem dL_law_1767 : decode cL_law 1767 = .ok (.aload_n 2, 1) := dk_44 (dk_at dksL_law_70 2 rfl rfl)
theorem dL_law_1768 : decode cL_law 1768 = .ok (.invokevirtual 215, 3) := dk_182 0 215 (dk_at dksL_law_70 3 rfl rfl)
theorem dL_law_1771 : decode cL_law 1771 = .ok (.istore 7, 2) := dk_54 7 (dk_at dksL_law_70 6 rfl rfl)
theorem dL_law_1773 : decode cL_law 1773 = .ok (.aload_n 2, 1) := dk_44 (dk_at dksL_law_70 8 rfl rfl)
theorem dL_law_1774 : decode cL_law 1774 = .ok (.invokevirtual 127, 3) := dk_182 0 127 (dk_at dksL_law_70 9 rfl rfl)
theorem dL_law_1777 : decode cL_law 1777 = .ok (.iload 6, 2) := dk_21 6 (dk_at dksL_law_70 12 rfl rfl)
theorem dL_law_1779 : decode cL_law 1779 = .ok (.if_icmp .eq 5, 3) := dk_159 0 5 (dk_at dksL_law_70 14 rfl rfl)
theorem dL_law_1782 : decode cL_law 1782 = .ok (.iconst 0, 1) := dk_3 (dk_at dksL_law_70 17 rfl rfl)
theorem dL_law_1783 : decode cL_law 1783 = .ok (.ireturn, 1) := dk_172 (dk_at dksL_law_70 18 rfl rfl)
theorem dL_law_1784 : decode cL_law 1784 = .ok (.iload 6, 2) := dk_21 6 (dk_at dksL_law_70 19 rfl rfl)
theorem dL_law_1786 : decode cL_law 1786 = .ok (.ifCond .ne 15, 3) := dk_154 0 15 (dk_at dksL_law_70 21 rfl rfl)
theorem dL_law_1789 : decode cL_law 1789 = .ok (.aload_n 3, 1) := dk_45 (dk_at dksL_law_71 0 rfl rfl)
theorem dL_law_1790 : decode cL_law 1790 = .ok (.iconst 0, 1) := dk_3 (dk_at dksL_law_71 1 rfl rfl)
theorem dL_law_1791 : decode cL_law 1791 = .ok (.laload, 1) := dk_47 (dk_at dksL_law_71 2 rfl rfl)
theorem dL_law_1792 : decode cL_law 1792 = .ok (.iload 7, 2) := dk_21 7 (dk_at dksL_law_71 3 rfl rfl)
theorem dL_law_1794 : decode cL_law 1794 = .ok (.i2l, 1) := dk_133 (dk_at dksL_law_71 5 rfl rfl)
theorem dL_law_1795 : decode cL_law 1795 = .ok (.lcmp, 1) := dk_148 (dk_at dksL_law_71 6 rfl rfl)
theorem dL_law_1796 : decode cL_law 1796 = .ok (.ifCond .eq 5, 3) := dk_153 0 5 (dk_at dksL_law_71 7 rfl rfl)
theorem dL_law_1799 : decode cL_law 1799 = .ok (.iconst 0, 1) := dk_3 (dk_at dksL_law_71 10 rfl rfl)
theorem dL_law_1800 : decode cL_law 1800 = .ok (.ireturn, 1) := dk_172 (dk_at dksL_law_71 11 rfl rfl)
theorem dL_law_1801 : decode cL_law 1801 = .ok (.goto 323, 3) := dk_167 1 67 (dk_at dksL_law_71 12 rfl rfl)
theorem dL_law_1804 : decode cL_law 1804 = .ok (.aload_n 1, 1) := dk_43 (dk_at dksL_law_71 15 rfl rfl)
theorem dL_law_1805 : decode cL_law 1805 = .ok (.invokevirtual 216, 3) := dk_182 0 216 (dk_at dksL_law_71 16 rfl rfl)
theorem dL_law_1808 : decode cL_law 1808 = .ok (.aload_n 2, 1) := dk_44 (dk_at dksL_law_71 19 rfl rfl)
theorem dL_law_1809 : decode cL_law 1809 = .ok (.invokevirtual 219, 3) := dk_182 0 219 (dk_at dksL_law_71 20 rfl rfl)
theorem dL_law_1812 : decode cL_law 1812 = .ok (.if_icmp .eq 312, 3) := dk_159 1 56 (dk_at dksL_law_72 0 rfl rfl)
theorem dL_law_1815 : decode cL_law 1815 = .ok (.iconst 0, 1) := dk_3 (dk_at dksL_law_72 3 rfl rfl)
theorem dL_law_1816 : decode cL_law 1816 = .ok (.ireturn, 1) := dk_172 (dk_at dksL_law_72 4 rfl rfl)
theorem dL_law_1817 : decode cL_law 1817 = .ok (.aload_n 1, 1) := dk_43 (dk_at dksL_law_72 5 rfl rfl)
theorem dL_law_1818 : decode cL_law 1818 = .ok (.aload_n 0, 1) := dk_42 (dk_at dksL_law_72 6 rfl rfl)
theorem dL_law_1819 : decode cL_law 1819 = .ok (.iload 5, 2) := dk_21 5 (dk_at dksL_law_72 7 rfl rfl)
theorem dL_law_1821 : decode cL_law 1821 = .ok (.iconst 1, 1) := dk_4 (dk_at dksL_law_72 9 rfl rfl)
theorem dL_law_1822 : decode cL_law 1822 = .ok (.iadd, 1) := dk_96 (dk_at dksL_law_72 10 rfl rfl)
theorem dL_law_1823 : decode cL_law 1823 = .ok (.iaload, 1) := dk_46 (dk_at dksL_law_72 11 rfl rfl)
theorem dL_law_1824 : decode cL_law 1824 = .ok (.ifCond .eq 7, 3) := dk_153 0 7 (dk_at dksL_law_72 12 rfl rfl)
theorem dL_law_1827 : decode cL_law 1827 = .ok (.iconst 1, 1) := dk_4 (dk_at dksL_law_72 15 rfl rfl)
theorem dL_law_1828 : decode cL_law 1828 = .ok (.goto 4, 3) := dk_167 0 4 (dk_at dksL_law_72 16 rfl rfl)
theorem dL_law_1831 : decode cL_law 1831 = .ok (.iconst 0, 1) := dk_3 (dk_at dksL_law_72 19 rfl rfl)
theorem dL_law_1832 : decode cL_law 1832 = .ok (.aload_n 3, 1) := dk_45 (dk_at dksL_law_72 20 rfl rfl)
theorem dL_law_1833 : decode cL_law 1833 = .ok (.invokestatic 220, 3) := dk_184 0 220 (dk_at dksL_law_72 21 rfl rfl)
theorem dL_law_1836 : decode cL_law 1836 = .ok (.istore 6, 2) := dk_54 6 (dk_at dksL_law_73 0 rfl rfl)
theorem dL_law_1838 : decode cL_law 1838 = .ok (.aload_n 2, 1) := dk_44 (dk_at dksL_law_73 2 rfl rfl)
theorem dL_law_1839 : decode cL_law 1839 = .ok (.aload_n 0, 1) := dk_42 (dk_at dksL_law_73 3 rfl rfl)
theorem dL_law_1840 : decode cL_law 1840 = .ok (.iload 5, 2) := dk_21 5 (dk_at dksL_law_73 4 rfl rfl)
theorem dL_law_1842 : decode cL_law 1842 = .ok (.iconst 1, 1) := dk_4 (dk_at dksL_law_73 6 rfl rfl)
theorem dL_law_1843 : decode cL_law 1843 = .ok (.iadd, 1) := dk_96 (dk_at dksL_law_73 7 rfl rfl)
theorem dL_law_1844 : decode cL_law 1844 = .ok (.iaload, 1) := dk_46 (dk_at dksL_law_73 8 rfl rfl)
theorem dL_law_1845 : decode cL_law 1845 = .ok (.ifCond .eq 7, 3) := dk_153 0 7 (dk_at dksL_law_73 9 rfl rfl)
theorem dL_law_1848 : decode cL_law 1848 = .ok (.iconst 1, 1) := dk_4 (dk_at dksL_law_73 12 rfl rfl)
theorem dL_law_1849 : decode cL_law 1849 = .ok (.goto 4, 3) := dk_167 0 4 (dk_at dksL_law_73 13 rfl rfl)
theorem dL_law_1852 : decode cL_law 1852 = .ok (.iconst 0, 1) := dk_3 (dk_at dksL_law_73 16 rfl rfl)
theorem dL_law_1853 : decode cL_law 1853 = .ok (.invokevirtual 223, 3) := dk_182 0 223 (dk_at dksL_law_73 17 rfl rfl)
theorem dL_law_1856 : decode cL_law 1856 = .ok (.istore 7, 2) := dk_54 7 (dk_at dksL_law_73 20 rfl rfl)
theorem dL_law_1858 : decode cL_law 1858 = .ok (.aload_n 2, 1) := dk_44 (dk_at dksL_law_73 22 rfl rfl)
theorem dL_law_1859 : decode cL_law 1859 = .ok (.invokevirtual 127, 3) := dk_182 0 127 (dk_at dksL_law_74 0 rfl rfl)
theorem dL_law_1862 : decode cL_law 1862 = .ok (.iload 6, 2) := dk_21 6 (dk_at dksL_law_74 3 rfl rfl)
theorem dL_law_1864 : decode cL_law 1864 = .ok (.if_icmp .eq 5, 3) := dk_159 0 5 (dk_at dksL_law_74 5 rfl rfl)
theorem dL_law_1867 : decode cL_law 1867 = .ok (.iconst 0, 1) := dk_3 (dk_at dksL_law_74 8 rfl rfl)
theorem dL_law_1868 : decode cL_law 1868 = .ok (.ireturn, 1) := dk_172 (dk_at dksL_law_74 9 rfl rfl)
theorem dL_law_1869 : decode cL_law 1869 = .ok (.iload 6, 2) := dk_21 6 (dk_at dksL_law_74 10 rfl rfl)
theorem dL_law_1871 : decode cL_law 1871 = .ok (.ifCond .ne 15, 3) := dk_154 0 15 (dk_at dksL_law_74 12 rfl rfl)
theorem dL_law_1874 : decode cL_law 1874 = .ok (.aload_n 3, 1) := dk_45 (dk_at dksL_law_74 15 rfl rfl)
theorem dL_law_1875 : decode cL_law 1875 = .ok (.iconst 0, 1) := dk_3 (dk_at dksL_law_74 16 rfl rfl)
theorem dL_law_1876 : decode cL_law 1876 = .ok (.laload, 1) := dk_47 (dk_at dksL_law_74 17 rfl rfl)
theorem dL_law_1877 : decode cL_law 1877 = .ok (.iload 7, 2) := dk_21 7 (dk_at dksL_law_74 18 rfl rfl)
theorem dL_law_1879 : decode cL_law 1879 = .ok (.i2l, 1) := dk_133 (dk_at dksL_law_74 20 rfl rfl)
theorem dL_law_1880 : decode cL_law 1880 = .ok (.lcmp, 1) := dk_148 (dk_at dksL_law_74 21 rfl rfl)
theorem dL_law_1881 : decode cL_law 1881 = .ok (.ifCond .eq 5, 3) := dk_153 0 5 (dk_at dksL_law_75 0 rfl rfl)
theorem dL_law_1884 : decode cL_law 1884 = .ok (.iconst 0, 1) := dk_3 (dk_at dksL_law_75 3 rfl rfl)
theorem dL_law_1885 : decode cL_law 1885 = .ok (.ireturn, 1) := dk_172 (dk_at dksL_law_75 4 rfl rfl)
theorem dL_law_1886 : decode cL_law 1886 = .ok (.goto 238, 3) := dk_167 0 238 (dk_at dksL_law_75 5 rfl rfl)
theorem dL_law_1889 : decode cL_law 1889 = .ok (.aload_n 1, 1) := dk_43 (dk_at dksL_law_75 8 rfl rfl)
theorem dL_law_1890 : decode cL_law 1890 = .ok (.aload_n 0, 1) := dk_42 (dk_at dksL_law_75 9 rfl rfl)
theorem dL_law_1891 : decode cL_law 1891 = .ok (.iload 5, 2) := dk_21 5 (dk_at dksL_law_75 10 rfl rfl)
theorem dL_law_1893 : decode cL_law 1893 = .ok (.iconst 1, 1) := dk_4 (dk_at dksL_law_75 12 rfl rfl)
theorem dL_law_1894 : decode cL_law 1894 = .ok (.iadd, 1) := dk_96 (dk_at dksL_law_75 13 rfl rfl)
theorem dL_law_1895 : decode cL_law 1895 = .ok (.iaload, 1) := dk_46 (dk_at dksL_law_75 14 rfl rfl)
theorem dL_law_1896 : decode cL_law 1896 = .ok (.aload_n 3, 1) := dk_45 (dk_at dksL_law_75 15 rfl rfl)
theorem dL_law_1897 : decode cL_law 1897 = .ok (.invokestatic 224, 3) := dk_184 0 224 (dk_at dksL_law_75 16 rfl rfl)
theorem dL_law_1900 : decode cL_law 1900 = .ok (.istore 6, 2) := dk_54 6 (dk_at dksL_law_75 19 rfl rfl)
theorem dL_law_1902 : decode cL_law 1902 = .ok (.aload_n 2, 1) := dk_44 (dk_at dksL_law_75 21 rfl rfl)
theorem dL_law_1903 : decode cL_law 1903 = .ok (.aload_n 0, 1) := dk_42 (dk_at dksL_law_75 22 rfl rfl)
theorem dL_law_1904 : decode cL_law 1904 = .ok (.iload 5, 2) := dk_21 5 (dk_at dksL_law_76 0 rfl rfl)
theorem dL_law_1906 : decode cL_law 1906 = .ok (.iconst 1, 1) := dk_4 (dk_at dksL_law_76 2 rfl rfl)
theorem dL_law_1907 : decode cL_law 1907 = .ok (.iadd, 1) := dk_96 (dk_at dksL_law_76 3 rfl rfl)
theorem dL_law_1908 : decode cL_law 1908 = .ok (.iaload, 1) := dk_46 (dk_at dksL_law_76 4 rfl rfl)
theorem dL_law_1909 : decode cL_law 1909 = .ok (.invokevirtual 226, 3) := dk_182 0 226 (dk_at dksL_law_76 5 rfl rfl)
theorem dL_law_1912 : decode cL_law 1912 = .ok (.istore 7, 2) := dk_54 7 (dk_at dksL_law_76 8 rfl rfl)
theorem dL_law_1914 : decode cL_law 1914 = .ok (.aload_n 2, 1) := dk_44 (dk_at dksL_law_76 10 rfl rfl)
theorem dL_law_1915 : decode cL_law 1915 = .ok (.invokevirtual 127, 3) := dk_182 0 127 (dk_at dksL_law_76 11 rfl rfl)
theorem dL_law_1918 : decode cL_law 1918 = .ok (.iload 6, 2) := dk_21 6 (dk_at dksL_law_76 14 rfl rfl)
theorem dL_law_1920 : decode cL_law 1920 = .ok (.if_icmp .eq 5, 3) := dk_159 0 5 (dk_at dksL_law_76 16 rfl rfl)
theorem dL_law_1923 : decode cL_law 1923 = .ok (.iconst 0, 1) := dk_3 (dk_at dksL_law_76 19 rfl rfl)
theorem dL_law_1924 : decode cL_law 1924 = .ok (.ireturn, 1) := dk_172 (dk_at dksL_law_76 20 rfl rfl)
theorem dL_law_1925 : decode cL_law 1925 = .ok (.iload 6, 2) := dk_21 6 (dk_at dksL_law_76 21 rfl rfl)
theorem dL_law_1927 : decode cL_law 1927 = .ok (.ifCond .ne 15, 3) := dk_154 0 15 (dk_at dksL_law_77 0 rfl rfl)
theorem dL_law_1930 : decode cL_law 1930 = .ok (.aload_n 3, 1) := dk_45 (dk_at dksL_law_77 3 rfl rfl)
theorem dL_law_1931 : decode cL_law 1931 = .ok (.iconst 0, 1) := dk_3 (dk_at dksL_law_77 4 rfl rfl)
theorem dL_law_1932 : decode cL_law 1932 = .ok (.laload, 1) := dk_47 (dk_at dksL_law_77 5 rfl rfl)
theorem dL_law_1933 : decode cL_law 1933 = .ok (.iload 7, 2) := dk_21 7 (dk_at dksL_law_77 6 rfl rfl)
theorem dL_law_1935 : decode cL_law 1935 = .ok (.i2l, 1) := dk_133 (dk_at dksL_law_77 8 rfl rfl)
theorem dL_law_1936 : decode cL_law 1936 = .ok (.lcmp, 1) := dk_148 (dk_at dksL_law_77 9 rfl rfl)
theorem dL_law_1937 : decode cL_law 1937 = .ok (.ifCond .eq 5, 3) := dk_153 0 5 (dk_at dksL_law_77 10 rfl rfl)
theorem dL_law_1940 : decode cL_law 1940 = .ok (.iconst 0, 1) := dk_3 (dk_at dksL_law_77 13 rfl rfl)
theorem dL_law_1941 : decode cL_law 1941 = .ok (.ireturn, 1) := dk_172 (dk_at dksL_law_77 14 rfl rfl)
theorem dL_law_1942 : decode cL_law 1942 = .ok (.goto 182, 3) := dk_167 0 182 (dk_at dksL_law_77 15 rfl rfl)
theorem dL_law_1945 : decode cL_law 1945 = .ok (.aload_n 1, 1) := dk_43 (dk_at dksL_law_77 18 rfl rfl)
theorem dL_law_1946 : decode cL_law 1946 = .ok (.invokevirtual 227, 3) := dk_182 0 227 (dk_at dksL_law_77 19 rfl rfl)
theorem dL_law_1949 : decode cL_law 1949 = .ok (.aload_n 2, 1) := dk_44 (dk_at dksL_law_77 22 rfl rfl)
theorem dL_law_1950 : decode cL_law 1950 = .ok (.invokevirtual 231, 3) := dk_182 0 231 (dk_at dksL_law_78 0 rfl rfl)
theorem dL_law_1953 : decode cL_law 1953 = .ok (.if_icmp .eq 171, 3) := dk_159 0 171 (dk_at dksL_law_78 3 rfl rfl)
theorem dL_law_1956 : decode cL_law 1956 = .ok (.iconst 0, 1) := dk_3 (dk_at dksL_law_78 6 rfl rfl)
theorem dL_law_1957 : decode cL_law 1957 = .ok (.ireturn, 1) := dk_172 (dk_at dksL_law_78 7 rfl rfl)
theorem dL_law_1958 : decode cL_law 1958 = .ok (.aload_n 1, 1) := dk_43 (dk_at dksL_law_78 8 rfl rfl)
theorem dL_law_1959 : decode cL_law 1959 = .ok (.aload 4, 2) := dk_25 4 (dk_at dksL_law_78 9 rfl rfl)
theorem dL_law_1961 : decode cL_law 1961 = .ok (.invokestatic 232, 3) := dk_184 0 232 (dk_at dksL_law_78 11 rfl rfl)
theorem dL_law_1964 : decode cL_law 1964 = .ok (.istore 6, 2) := dk_54 6 (dk_at dksL_law_78 14 rfl rfl)
theorem dL_law_1966 : decode cL_law 1966 = .ok (.aload_n 2, 1) := dk_44 (dk_at dksL_law_78 16 rfl rfl)
theorem dL_law_1967 : decode cL_law 1967 = .ok (.invokevirtual 235, 3) := dk_182 0 235 (dk_at dksL_law_78 17 rfl rfl)
theorem dL_law_1970 : decode cL_law 1970 = .ok (.dstore 7, 2) := dk_57 7 (dk_at dksL_law_78 20 rfl rfl)
theorem dL_law_1972 : decode cL_law 1972 = .ok (.aload_n 2, 1) := dk_44 (dk_at dksL_law_78 22 rfl rfl)
theorem dL_law_1973 : decode cL_law 1973 = .ok (.invokevirtual 127, 3) := dk_182 0 127 (dk_at dksL_law_79 0 rfl rfl)
theorem dL_law_1976 : decode cL_law 1976 = .ok (.iload 6, 2) := dk_21 6 (dk_at dksL_law_79 3 rfl rfl)
theorem dL_law_1978 : decode cL_law 1978 = .ok (.if_icmp .eq 5, 3) := dk_159 0 5 (dk_at dksL_law_79 5 rfl rfl)
theorem dL_law_1981 : decode cL_law 1981 = .ok (.iconst 0, 1) := dk_3 (dk_at dksL_law_79 8 rfl rfl)
theorem dL_law_1982 : decode cL_law 1982 = .ok (.ireturn, 1) := dk_172 (dk_at dksL_law_79 9 rfl rfl)
theorem dL_law_1983 : decode cL_law 1983 = .ok (.iload 6, 2) := dk_21 6 (dk_at dksL_law_79 10 rfl rfl)
theorem dL_law_1985 : decode cL_law 1985 = .ok (.ifCond .ne 35, 3) := dk_154 0 35 (dk_at dksL_law_79 12 rfl rfl)
theorem dL_law_1988 : decode cL_law 1988 = .ok (.aload 4, 2) := dk_25 4 (dk_at dksL_law_79 15 rfl rfl)
theorem dL_law_1990 : decode cL_law 1990 = .ok (.iconst 0, 1) := dk_3 (dk_at dksL_law_79 17 rfl rfl)
theorem dL_law_1991 : decode cL_law 1991 = .ok (.daload, 1) := dk_49 (dk_at dksL_law_79 18 rfl rfl)
theorem dL_law_1992 : decode cL_law 1992 = .ok (.dload 7, 2) := dk_24 7 (dk_at dksL_law_79 19 rfl rfl)
theorem dL_law_1994 : decode cL_law 1994 = .ok (.dcmp .l, 1) := dk_151 (dk_at dksL_law_79 21 rfl rfl)
theorem dL_law_1995 : decode cL_law 1995 = .ok (.ifCond .eq 25, 3) := dk_153 0 25 (dk_at dksL_law_80 0 rfl rfl)
theorem dL_law_1998 : decode cL_law 1998 = .ok (.aload 4, 2) := dk_25 4 (dk_at dksL_law_80 3 rfl rfl)
theorem dL_law_2000 : decode cL_law 2000 = .ok (.iconst 0, 1) := dk_3 (dk_at dksL_law_80 5 rfl rfl)
theorem dL_law_2001 : decode cL_law 2001 = .ok (.daload, 1) := dk_49 (dk_at dksL_law_80 6 rfl rfl)
theorem dL_law_2002 : decode cL_law 2002 = .ok (.aload 4, 2) := dk_25 4 (dk_at dksL_law_80 7 rfl rfl)
theorem dL_law_2004 : decode cL_law 2004 = .ok (.iconst 0, 1) := dk_3 (dk_at dksL_law_80 9 rfl rfl)
theorem dL_law_2005 : decode cL_law 2005 = .ok (.daload, 1) := dk_49 (dk_at dksL_law_80 10 rfl rfl)
theorem dL_law_2006 : decode cL_law 2006 = .ok (.dcmp .l, 1) := dk_151 (dk_at dksL_law_80 11 rfl rfl)
theorem dL_law_2007 : decode cL_law 2007 = .ok (.ifCond .eq 11, 3) := dk_153 0 11 (dk_at dksL_law_80 12 rfl rfl)
theorem dL_law_2010 : decode cL_law 2010 = .ok (.dload 7, 2) := dk_24 7 (dk_at dksL_law_80 15 rfl rfl)
theorem dL_law_2012 : decode cL_law 2012 = .ok (.dload 7, 2) := dk_24 7 (dk_at dksL_law_80 17 rfl rfl)
theorem dL_law_2014 : decode cL_law 2014 = .ok (.dcmp .l, 1) := dk_151 (dk_at dksL_law_80 19 rfl rfl)
theorem dL_law_2015 : decode cL_law 2015 = .ok (.ifCond .ne 5, 3) := dk_154 0 5 (dk_at dksL_law_80 20 rfl rfl)
theorem dL_law_2018 : decode cL_law 2018 = .ok (.iconst 0, 1) := dk_3 (dk_at dksL_law_80 23 rfl rfl)
theorem dL_law_2019 : decode cL_law 2019 = .ok (.ireturn, 1) := dk_172 (dk_at dksL_law_81 0 rfl rfl)
theorem dL_law_2020 : decode cL_law 2020 = .ok (.goto 104, 3) := dk_167 0 104 (dk_at dksL_law_81 1 rfl rfl)
theorem dL_law_2023 : decode cL_law 2023 = .ok (.aload_n 1, 1) := dk_43 (dk_at dksL_law_81 4 rfl rfl)
theorem dL_law_2024 : decode cL_law 2024 = .ok (.aload_n 3, 1) := dk_45 (dk_at dksL_law_81 5 rfl rfl)
theorem dL_law_2025 : decode cL_law 2025 = .ok (.invokestatic 236, 3) := dk_184 0 236 (dk_at dksL_law_81 6 rfl rfl)
theorem dL_law_2028 : decode cL_law 2028 = .ok (.istore 6, 2) := dk_54 6 (dk_at dksL_law_81 9 rfl rfl)
theorem dL_law_2030 : decode cL_law 2030 = .ok (.aload_n 2, 1) := dk_44 (dk_at dksL_law_81 11 rfl rfl)
theorem dL_law_2031 : decode cL_law 2031 = .ok (.invokevirtual 238, 3) := dk_182 0 238 (dk_at dksL_law_81 12 rfl rfl)
theorem dL_law_2034 : decode cL_law 2034 = .ok (.istore 7, 2) := dk_54 7 (dk_at dksL_law_81 15 rfl rfl)
theorem dL_law_2036 : decode cL_law 2036 = .ok (.aload_n 2, 1) := dk_44 (dk_at dksL_law_81 17 rfl rfl)
theorem dL_law_2037 : decode cL_law 2037 = .ok (.invokevirtual 127, 3) := dk_182 0 127 (dk_at dksL_law_81 18 rfl rfl)
theorem dL_law_2040 : decode cL_law 2040 = .ok (.iload 6, 2) := dk_21 6 (dk_at dksL_law_81 21 rfl rfl)
theorem dL_law_2042 : decode cL_law 2042 = .ok (.if_icmp .eq 5, 3) := dk_159 0 5 (dk_at dksL_law_82 0 rfl rfl)
theorem dL_law_2045 : decode cL_law 2045 = .ok (.iconst 0, 1) := dk_3 (dk_at dksL_law_82 3 rfl rfl)
theorem dL_law_2046 : decode cL_law 2046 = .ok (.ireturn, 1) := dk_172 (dk_at dksL_law_82 4 rfl rfl)
theorem dL_law_2047 : decode cL_law 2047 = .ok (.iload 6, 2) := dk_21 6 (dk_at dksL_law_82 5 rfl rfl)
theorem dL_law_2049 : decode cL_law 2049 = .ok (.ifCond .ne 15, 3) := dk_154 0 15 (dk_at dksL_law_82 7 rfl rfl)
theorem dL_law_2052 : decode cL_law 2052 = .ok (.aload_n 3, 1) := dk_45 (dk_at dksL_law_82 10 rfl rfl)
theorem dL_law_2053 : decode cL_law 2053 = .ok (.iconst 0, 1) := dk_3 (dk_at dksL_law_82 11 rfl rfl)
theorem dL_law_2054 : decode cL_law 2054 = .ok (.laload, 1) := dk_47 (dk_at dksL_law_82 12 rfl rfl)
theorem dL_law_2055 : decode cL_law 2055 = .ok (.iload 7, 2) := dk_21 7 (dk_at dksL_law_82 13 rfl rfl)
theorem dL_law_2057 : decode cL_law 2057 = .ok (.i2l, 1) := dk_133 (dk_at dksL_law_82 15 rfl rfl)
theorem dL_law_2058 : decode cL_law 2058 = .ok (.lcmp, 1) := dk_148 (dk_at dksL_law_82 16 rfl rfl)
theorem dL_law_2059 : decode cL_law 2059 = .ok (.ifCond .eq 5, 3) := dk_153 0 5 (dk_at dksL_law_82 17 rfl rfl)
theorem dL_law_2062 : decode cL_law 2062 = .ok (.iconst 0, 1) := dk_3 (dk_at dksL_law_82 20 rfl rfl)
theorem dL_law_2063 : decode cL_law 2063 = .ok (.ireturn, 1) := dk_172 (dk_at dksL_law_82 21 rfl rfl)
theorem dL_law_2064 : decode cL_law 2064 = .ok (.goto 60, 3) := dk_167 0 60 (dk_at dksL_law_83 0 rfl rfl)
theorem dL_law_2067 : decode cL_law 2067 = .ok (.aload_n 1, 1) := dk_43 (dk_at dksL_law_83 3 rfl rfl)
theorem dL_law_2068 : decode cL_law 2068 = .ok (.invokevirtual 239, 3) := dk_182 0 239 (dk_at dksL_law_83 4 rfl rfl)
theorem dL_law_2071 : decode cL_law 2071 = .ok (.aload_n 2, 1) := dk_44 (dk_at dksL_law_83 7 rfl rfl)
theorem dL_law_2072 : decode cL_law 2072 = .ok (.invokevirtual 242, 3) := dk_182 0 242 (dk_at dksL_law_83 8 rfl rfl)
theorem dL_law_2075 : decode cL_law 2075 = .ok (.if_icmp .eq 49, 3) := dk_159 0 49 (dk_at dksL_law_83 11 rfl rfl)
theorem dL_law_2078 : decode cL_law 2078 = .ok (.iconst 0, 1) := dk_3 (dk_at dksL_law_83 14 rfl rfl)
theorem dL_law_2079 : decode cL_law 2079 = .ok (.ireturn, 1) := dk_172 (dk_at dksL_law_83 15 rfl rfl)
theorem dL_law_2080 : decode cL_law 2080 = .ok (.aload_n 1, 1) := dk_43 (dk_at dksL_law_83 16 rfl rfl)
theorem dL_law_2081 : decode cL_law 2081 = .ok (.aload_n 3, 1) := dk_45 (dk_at dksL_law_83 17 rfl rfl)
theorem dL_law_2082 : decode cL_law 2082 = .ok (.invokestatic 243, 3) := dk_184 0 243 (dk_at dksL_law_83 18 rfl rfl)
theorem dL_law_2085 : decode cL_law 2085 = .ok (.istore 6, 2) := dk_54 6 (dk_at dksL_law_83 21 rfl rfl)
theorem dL_law_2087 : decode cL_law 2087 = .ok (.aload_n 2, 1) := dk_44 (dk_at dksL_law_83 23 rfl rfl)
theorem dL_law_2088 : decode cL_law 2088 = .ok (.invokevirtual 245, 3) := dk_182 0 245 (dk_at dksL_law_84 0 rfl rfl)
theorem dL_law_2091 : decode cL_law 2091 = .ok (.istore 7, 2) := dk_54 7 (dk_at dksL_law_84 3 rfl rfl)
theorem dL_law_2093 : decode cL_law 2093 = .ok (.aload_n 2, 1) := dk_44 (dk_at dksL_law_84 5 rfl rfl)
theorem dL_law_2094 : decode cL_law 2094 = .ok (.invokevirtual 127, 3) := dk_182 0 127 (dk_at dksL_law_84 6 rfl rfl)
theorem dL_law_2097 : decode cL_law 2097 = .ok (.iload 6, 2) := dk_21 6 (dk_at dksL_law_84 9 rfl rfl)
theorem dL_law_2099 : decode cL_law 2099 = .ok (.if_icmp .eq 5, 3) := dk_159 0 5 (dk_at dksL_law_84 11 rfl rfl)
theorem dL_law_2102 : decode cL_law 2102 = .ok (.iconst 0, 1) := dk_3 (dk_at dksL_law_84 14 rfl rfl)
theorem dL_law_2103 : decode cL_law 2103 = .ok (.ireturn, 1) := dk_172 (dk_at dksL_law_84 15 rfl rfl)
theorem dL_law_2104 : decode cL_law 2104 = .ok (.iload 6, 2) := dk_21 6 (dk_at dksL_law_84 16 rfl rfl)
theorem dL_law_2106 : decode cL_law 2106 = .ok (.ifCond .ne 15, 3) := dk_154 0 15 (dk_at dksL_law_84 18 rfl rfl)
theorem dL_law_2109 : decode cL_law 2109 = .ok (.aload_n 3, 1) := dk_45 (dk_at dksL_law_84 21 rfl rfl)
theorem dL_law_2110 : decode cL_law 2110 = .ok (.iconst 0, 1) := dk_3 (dk_at dksL_law_84 22 rfl rfl)
theorem dL_law_2111 : decode cL_law 2111 = .ok (.laload, 1) := dk_47 (dk_at dksL_law_84 23 rfl rfl)
theorem dL_law_2112 : decode cL_law 2112 = .ok (.iload 7, 2) := dk_21 7 (dk_at dksL_law_85 0 rfl rfl)
theorem dL_law_2114 : decode cL_law 2114 = .ok (.i2l, 1) := dk_133 (dk_at dksL_law_85 2 rfl rfl)
theorem dL_law_2115 : decode cL_law 2115 = .ok (.lcmp, 1) := dk_148 (dk_at dksL_law_85 3 rfl rfl)
theorem dL_law_2116 : decode cL_law 2116 = .ok (.ifCond .eq 5, 3) := dk_153 0 5 (dk_at dksL_law_85 4 rfl rfl)
theorem dL_law_2119 : decode cL_law 2119 = .ok (.iconst 0, 1) := dk_3 (dk_at dksL_law_85 7 rfl rfl)
theorem dL_law_2120 : decode cL_law 2120 = .ok (.ireturn, 1) := dk_172 (dk_at dksL_law_85 8 rfl rfl)
theorem dL_law_2121 : decode cL_law 2121 = .ok (.goto 3, 3) := dk_167 0 3 (dk_at dksL_law_85 9 rfl rfl)
theorem dL_law_2124 : decode cL_law 2124 = .ok (.iinc 5 5, 3) := dk_132 5 5 (dk_at dksL_law_85 12 rfl rfl)
theorem dL_law_2127 : decode cL_law 2127 = .ok (.goto (-2099), 3) := dk_167 247 205 (dk_at dksL_law_85 15 rfl rfl)
theorem dL_law_2130 : decode cL_law 2130 = .ok (.iconst 1, 1) := dk_4 (dk_at dksL_law_85 18 rfl rfl)
theorem dL_law_2131 : decode cL_law 2131 = .ok (.ireturn, 1) := dk_172 (dk_at dksL_law_85 19 rfl rfl)
