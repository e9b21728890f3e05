/-! ===== statics and String constants that stood at the start ===== -/
/-- a static field holds a value, in a cell that was there at the start -/
def mStat (G : mG) (C n d : String) (v : Value) : Prop := va_Z C n d v (fun q => mGb G ≤ q) (mGs G) (mGs G).heap
section STATIC
variable {G : mG} {y : mY} {d pc : Nat} {L : List (Option Value)} {st : List Value} {M : mM} {t u : Nat} {Q : mQt}
theorem r_gets {i : Nat} {C n ds : String} {v : Value} (hZ : mStat G C n ds v) (hw : Cond.fieldLink (mYn y).cls i C n ds ∈ lw_all) (hd : decode (mYc y) pc = .ok (.getstatic i, 3)) (k : mW G y d (pc + 3) L (v :: st) M t u Q) : mW G y d pc L st M t u Q := by
  intro p e R s m args below meth c CX H locs ls cells slots hR hl hL
  have hz : va_Z C n ds v (fun q => mGb G ≤ q) s s.heap := (va_Z.moved CX.warm.alike hZ).kept (fun a ha hA => CX.old a (Nat.lt_of_not_le hA))
  refine mGrown (fun hg _ => ?_)
  refine va_gets CX.hx CX.hb hz ⟨hg, fun q _ hA => ?_, fun l hl' => hl l hl'⟩ CX.own (CX.ts hw) (fun _ h => h) hd (k p e R s m args below meth c CX H locs ls cells slots hR hl hL)
  rw [CX.old q (Nat.lt_of_not_le hA)]; exact hR.2.2.2.2.2.1 q (Nat.lt_of_not_le hA)
theorem r_ldcS {i a : Nat} {tx : String} (hZ : vk_R (mYn y).cls i tx a (mGs G)) (hd : decode (mYc y) pc = .ok (.ldc i, 2)) (k : mW G y d (pc + 2) L (.ref a :: st) M t u Q) : mW G y d pc L st M t u Q := by
  intro p e R s m args below meth c CX H locs ls cells slots hR hl hL
  exact va_ldcS CX.hx CX.hb CX.own (hZ.warm CX.warm) hd (k p e R s m args below meth c CX H locs ls cells slots hR hl hL)
theorem r_ldcwS {i a : Nat} {tx : String} (hZ : vk_R (mYn y).cls i tx a (mGs G)) (hd : decode (mYc y) pc = .ok (.ldc_w i, 3)) (k : mW G y d (pc + 3) L (.ref a :: st) M t u Q) : mW G y d pc L st M t u Q := by
  intro p e R s m args below meth c CX H locs ls cells slots hR hl hL
  intro T hT X
  have hz := hZ.warm CX.warm
  obtain ⟨t', a1, b1⟩ := k p e R s m args below meth c CX H locs ls cells slots hR hl hL T hT X
  exact ⟨t', Stand.ldcStringW X CX.hx CX.own hz.1 hz.2 (g := F0 m pc ls st) rfl (by rw [CX.hb]; exact hd) t' a1, b1⟩
end STATIC
