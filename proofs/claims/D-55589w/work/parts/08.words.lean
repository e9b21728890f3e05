theorem q762 : (Jvm.Cond.sameMethod "[B" "java/lang/Object" "clone" "()Ljava/lang/Object;") ∈ lw_all := lw_g (lw_at lw_m3 207 rfl) rfl
set_option maxRecDepth 100000
theorem q763 : (Jvm.Cond.selects "[B" ({ cls := "[B", name := "clone", desc := "()Ljava/lang/Object;" } : Jvm.MethodName) ({ cls := "java/lang/Object", name := "clone", desc := "()Ljava/lang/Object;" } : Jvm.MethodName)) ∈ lw_all := lw_g (lw_at lw_m3 208 rfl) rfl
theorem q764 : (Jvm.Cond.castable "[B" "java/lang/Cloneable") ∈ lw_tbl := lw_at lw_m3 209 rfl
theorem q2214 : (Jvm.Cond.castable "[B" "java/lang/Object") ∈ lw_tbl := lw_at lw_m9 219 rfl
theorem q2215 : (Jvm.Cond.castable "[C" "java/lang/Object") ∈ lw_tbl := lw_at lw_m9 220 rfl
set_option maxRecDepth 100000
theorem q2217 : (Jvm.Cond.castable "[D" "java/lang/Object") ∈ lw_tbl := lw_at lw_m9 222 rfl
set_option maxRecDepth 100000
theorem q2209 : (Jvm.Cond.castable "[F" "java/lang/Object") ∈ lw_tbl := lw_at lw_m9 214 rfl
set_option maxRecDepth 100000
theorem q701 : (Jvm.Cond.sameMethod "[I" "java/lang/Object" "clone" "()Ljava/lang/Object;") ∈ lw_all := lw_g (lw_at lw_m3 146 rfl) rfl
set_option maxRecDepth 100000
theorem q704 : (Jvm.Cond.selects "[I" ({ cls := "[I", name := "clone", desc := "()Ljava/lang/Object;" } : Jvm.MethodName) ({ cls := "java/lang/Object", name := "clone", desc := "()Ljava/lang/Object;" } : Jvm.MethodName)) ∈ lw_all := lw_g (lw_at lw_m3 149 rfl) rfl
theorem q705 : (Jvm.Cond.castable "[I" "java/lang/Cloneable") ∈ lw_tbl := lw_at lw_m3 150 rfl
theorem q2210 : (Jvm.Cond.castable "[I" "java/lang/Object") ∈ lw_tbl := lw_at lw_m9 215 rfl
theorem q2216 : (Jvm.Cond.castable "[J" "java/lang/Object") ∈ lw_tbl := lw_at lw_m9 221 rfl
set_option maxRecDepth 100000
theorem q2208 : (Jvm.Cond.castable "[LPloughWills$CommonGood;" "java/lang/Object") ∈ lw_tbl := lw_at lw_m9 213 rfl
set_option maxRecDepth 100000
theorem q2213 : (Jvm.Cond.castable "[LPloughWills$Field;" "java/lang/Object") ∈ lw_tbl := lw_at lw_m9 218 rfl
set_option maxRecDepth 100000
theorem q2204 : (Jvm.Cond.castable "[LPloughWills$Good;" "java/lang/Object") ∈ lw_tbl := lw_at lw_m9 209 rfl
set_option maxRecDepth 100000
theorem q2206 : (Jvm.Cond.castable "[LPloughWills$LinearGood;" "java/lang/Object") ∈ lw_tbl := lw_at lw_m9 211 rfl
set_option maxRecDepth 100000
theorem q2207 : (Jvm.Cond.castable "[LPloughWills$LooseGood;" "java/lang/Object") ∈ lw_tbl := lw_at lw_m9 212 rfl
set_option maxRecDepth 100000
theorem q2201 : (Jvm.Cond.sameMethod "[Ljava/lang/Object;" "java/lang/Object" "getClass" "()Ljava/lang/Class;") ∈ lw_all := lw_g (lw_at lw_m9 206 rfl) rfl
set_option maxRecDepth 100000
theorem q2202 : (Jvm.Cond.selects "[Ljava/lang/Object;" ({ cls := "java/lang/Object", name := "getClass", desc := "()Ljava/lang/Class;" } : Jvm.MethodName) ({ cls := "java/lang/Object", name := "getClass", desc := "()Ljava/lang/Class;" } : Jvm.MethodName)) ∈ lw_all := lw_g (lw_at lw_m9 207 rfl) rfl
theorem q2211 : (Jvm.Cond.castable "[Ljava/lang/Object;" "java/lang/Object") ∈ lw_tbl := lw_at lw_m9 216 rfl
theorem q2212 : (Jvm.Cond.castable "[Z" "java/lang/Object") ∈ lw_tbl := lw_at lw_m9 217 rfl
set_option maxRecDepth 100000
theorem q2205 : (Jvm.Cond.castable "[[LPloughWills$Good;" "java/lang/Object") ∈ lw_tbl := lw_at lw_m9 210 rfl
set_option maxRecDepth 100000
theorem q108 : (Jvm.Cond.initialized "java/lang/Number") ∈ lw_all := lw_g (lw_at lw_m1 33 rfl) rfl
set_option maxRecDepth 100000
theorem q95 : (Jvm.Cond.initialized "java/lang/System") ∈ lw_all := lw_g (lw_at lw_m1 20 rfl) rfl
set_option maxRecDepth 100000
theorem q539 : (Jvm.Cond.static ({ cls := "java/lang/System", name := "arraycopy", desc := "(Ljava/lang/Object;ILjava/lang/Object;II)V" } : Jvm.MethodName)) ∈ lw_all := lw_g (lw_at lw_m2 224 rfl) rfl
theorem q540 : (Jvm.Cond.native ({ cls := "java/lang/System", name := "arraycopy", desc := "(Ljava/lang/Object;ILjava/lang/Object;II)V" } : Jvm.MethodName)) ∈ lw_all := lw_g (lw_at lw_m2 225 rfl) rfl
theorem q133 : (Jvm.Cond.arrayOver (Jvm.ClassFile.FieldType.object "PloughWills$Good")) ∈ lw_tbl := lw_at lw_m1 58 rfl
set_option maxRecDepth 100000
theorem q138 : (Jvm.Cond.arrayOver (Jvm.ClassFile.FieldType.array (Jvm.ClassFile.FieldType.object "PloughWills$Good"))) ∈ lw_tbl := lw_at lw_m1 63 rfl
theorem q140 : (Jvm.Cond.arrayOver (Jvm.ClassFile.FieldType.object "PloughWills$LinearGood")) ∈ lw_tbl := lw_at lw_m1 65 rfl
theorem q142 : (Jvm.Cond.arrayOver (Jvm.ClassFile.FieldType.object "PloughWills$LooseGood")) ∈ lw_tbl := lw_at lw_m1 67 rfl
theorem q144 : (Jvm.Cond.arrayOver (Jvm.ClassFile.FieldType.object "PloughWills$CommonGood")) ∈ lw_tbl := lw_at lw_m1 69 rfl
theorem q195 : (Jvm.Cond.arrayClass Jvm.ClassFile.FieldType.float) ∈ lw_all := lw_g (lw_at lw_m1 120 rfl) rfl
theorem q196 : (Jvm.Cond.arrayClass Jvm.ClassFile.FieldType.int) ∈ lw_all := lw_g (lw_at lw_m1 121 rfl) rfl
theorem q207 : (Jvm.Cond.arrayOver (Jvm.ClassFile.FieldType.object "java/lang/Object")) ∈ lw_tbl := lw_at lw_m1 132 rfl
theorem q251 : (Jvm.Cond.arrayClass Jvm.ClassFile.FieldType.boolean) ∈ lw_all := lw_g (lw_at lw_m1 176 rfl) rfl
theorem q252 : (Jvm.Cond.arrayOver (Jvm.ClassFile.FieldType.object "PloughWills$Field")) ∈ lw_tbl := lw_at lw_m1 177 rfl
theorem q376 : (Jvm.Cond.arrayClass Jvm.ClassFile.FieldType.byte) ∈ lw_all := lw_g (lw_at lw_m2 61 rfl) rfl
theorem q1819 : (Jvm.Cond.arrayClass Jvm.ClassFile.FieldType.char) ∈ lw_all := lw_g (lw_at lw_m8 64 rfl) rfl
theorem q2153 : (Jvm.Cond.arrayClass Jvm.ClassFile.FieldType.long) ∈ lw_all := lw_g (lw_at lw_m9 158 rfl) rfl
theorem q2154 : (Jvm.Cond.arrayClass Jvm.ClassFile.FieldType.double) ∈ lw_all := lw_g (lw_at lw_m9 159 rfl) rfl
