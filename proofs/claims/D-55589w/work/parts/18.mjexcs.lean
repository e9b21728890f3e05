/-! the exceptions that the classes make (printed by src/gen_exc.py) -/
theorem mxc_iae : mXC "java/lang/IllegalArgumentException" ["java/lang/RuntimeException", "java/lang/Exception"] := ⟨by decide +kernel, by decide +kernel, mInTbl _ [1105, 1106, 1107, 1108, 425, 1108, 1109, 1110, 1111, 427, 1111, 1112, 1113, 445, 429] (by decide +kernel) (by decide +kernel), by decide⟩
theorem mxo_iae : mXO "java/lang/IllegalArgumentException" := ⟨q904, q460, q905, q906, q907, q909⟩
theorem mxc_uoe : mXC "java/lang/UnsupportedOperationException" ["java/lang/RuntimeException", "java/lang/Exception"] := ⟨by decide +kernel, by decide +kernel, mInTbl _ [1223, 1224, 1225, 1108, 425, 1108, 1109, 1110, 1111, 427, 1111, 1112, 1113, 445, 429] (by decide +kernel) (by decide +kernel), by decide⟩
theorem mxo_uoe : mXO "java/lang/UnsupportedOperationException" := ⟨q1216, q463, q1217, q1218, q1219, q1221⟩
theorem mxc_ioobe : mXC "java/lang/IndexOutOfBoundsException" ["java/lang/RuntimeException", "java/lang/Exception"] := ⟨by decide +kernel, by decide +kernel, mInTbl _ [1259, 1260, 1261, 1108, 425, 1108, 1109, 1110, 1111, 427, 1111, 1112, 1113, 445, 429] (by decide +kernel) (by decide +kernel), by decide⟩
theorem mxo_ioobe : mXO "java/lang/IndexOutOfBoundsException" := ⟨q1252, q461, q1253, q1254, q1255, q1257⟩
theorem mxc_nsee : mXC "java/util/NoSuchElementException" ["java/lang/RuntimeException", "java/lang/Exception"] := ⟨by decide +kernel, by decide +kernel, mInTbl _ [1352, 1353, 1354, 1108, 425, 1108, 1109, 1110, 1111, 427, 1111, 1112, 1113, 445, 429] (by decide +kernel) (by decide +kernel), by decide⟩
theorem mxo_nsee : mXO "java/util/NoSuchElementException" := ⟨q1345, q464, q1346, q1347, q1348, q1350⟩
theorem mxc_ise : mXC "java/lang/IllegalStateException" ["java/lang/RuntimeException", "java/lang/Exception"] := ⟨by decide +kernel, by decide +kernel, mInTbl _ [1543, 1544, 1545, 1108, 425, 1108, 1109, 1110, 1111, 427, 1111, 1112, 1113, 445, 429] (by decide +kernel) (by decide +kernel), by decide⟩
theorem mxo_ise : mXO "java/lang/IllegalStateException" := ⟨q431, q432, q433, q435, q437, q441⟩
theorem mxc_ae : mXC "java/lang/ArithmeticException" ["java/lang/RuntimeException", "java/lang/Exception"] := ⟨by decide +kernel, by decide +kernel, mInTbl _ [1695, 1696, 1697, 1108, 425, 1108, 1109, 1110, 1111, 427, 1111, 1112, 1113, 445, 429] (by decide +kernel) (by decide +kernel), by decide⟩
theorem mxo_ae : mXO "java/lang/ArithmeticException" := ⟨q1685, q457, q1679, q1680, q1682, q1677⟩
theorem mxc_ex : mXC "java/lang/Exception" [] := ⟨by decide +kernel, by decide +kernel, mInTbl _ [1111, 1112, 1113, 445, 429] (by decide +kernel) (by decide +kernel), by decide⟩
theorem mxc_re : mXC "java/lang/RuntimeException" ["java/lang/Exception"] := ⟨by decide +kernel, by decide +kernel, mInTbl _ [1108, 1109, 1110, 1111, 427, 1111, 1112, 1113, 445, 429] (by decide +kernel) (by decide +kernel), by decide⟩
theorem mxo_refused : mXO "PloughWills$Refused" := ⟨q1127, q456, q1128, q1129, q1130, q1132⟩
theorem mxo_fault : mXO "PloughWills$Fault" := ⟨q1615, q455, q1616, q1617, q1618, q1620⟩
