/-! ===== the String constant of the sorts (printed by gen_lit.py) ===== -/
def litB : List Int32 := [40, 41, 98, 103, 117, 119, 112, 91, 124, 93]
/-- the sign of a sort -/
def chS (s : Nat) : Nat := [40, 41, 98, 103, 117, 119, 112, 91, 124, 93].getD s 0
section LIT
variable {G : mG}
theorem kLitM (hG : mKn G) : ∃ a b, mLit G litB a b ∧ vk_R "PloughWillsModel" 269 "()bguwp[|]" a (mGs G) := by
  obtain ⟨adK, adV, h1, h2⟩ := vk_Sof (args := mGv G) (s := mGs G) (N := 1) (tm := fun _ => .string "PloughWillsModel" 269) (len := [10]) (byt := [litB]) (A := mFree G)
    (fun i hi => by obtain rfl : i = 0 := by omega
                    decide)
    (fun _ _ => nw hG [false, false, false, true, false, true, true, false, true] rfl) (fun _ _ => nw hG [false, false, false, true, false, true, true, false, false] rfl) (fun _ _ => nw hG [false, false, false, true, false, true, false, true] rfl)
    (fun i hi => by obtain rfl : i = 0 := by omega
                    exact nw hG [false, false, false, true, false, true, false, false, true] rfl)
    (fun i hi j hj => by
      obtain rfl : i = 0 := by omega
      have hj : j < 10 := hj
      obtain rfl | rfl | rfl | rfl | rfl | rfl | rfl | rfl | rfl | rfl : j = 0 ∨ j = 1 ∨ j = 2 ∨ j = 3 ∨ j = 4 ∨ j = 5 ∨ j = 6 ∨ j = 7 ∨ j = 8 ∨ j = 9 := by omega
      · exact nw hG [false, false, false, true, false, true, false, false, false] rfl
      · exact nw hG [false, false, false, true, false, false, true, true] rfl
      · exact nw hG [false, false, false, true, false, false, true, false, true] rfl
      · exact nw hG [false, false, false, true, false, false, true, false, false] rfl
      · exact nw hG [false, false, false, true, false, false, false, true] rfl
      · exact nw hG [false, false, false, true, false, false, false, false, true] rfl
      · exact nw hG [false, false, false, true, false, false, false, false, false] rfl
      · exact nw hG [false, false, false, false, true, true, true, true] rfl
      · exact nw hG [false, false, false, false, true, true, true, false, true] rfl
      · exact nw hG [false, false, false, false, true, true, true, false, false] rfl
      )
    (fun i j hi hj hne => absurd (show i = j by omega) hne) (fun _ h => Nat.not_le.mpr h)
  refine ⟨adK 0, adV 0, ⟨fun i hi => ?_, fun i j hi hj _ => by omega⟩, vk_R.of (hG.1 _ q2092) (h2 0 Nat.one_pos)⟩
  obtain rfl : i = 0 := by omega
  exact h1.1 0 Nat.one_pos
theorem kLitW (hG : mKn G) : ∃ a b, mLit G litB a b ∧ vk_R "PloughWills$Will" 114 "()bguwp[|]" a (mGs G) := by
  obtain ⟨adK, adV, h1, h2⟩ := vk_Sof (args := mGv G) (s := mGs G) (N := 1) (tm := fun _ => .string "PloughWills$Will" 114) (len := [10]) (byt := [litB]) (A := mFree G)
    (fun i hi => by obtain rfl : i = 0 := by omega
                    decide)
    (fun _ _ => nw hG [false, false, true, true, false, true, false, false, false] rfl) (fun _ _ => nw hG [false, false, true, true, false, false, true, true] rfl) (fun _ _ => nw hG [false, false, true, true, false, false, true, false, true] rfl)
    (fun i hi => by obtain rfl : i = 0 := by omega
                    exact nw hG [false, false, true, true, false, false, true, false, false] rfl)
    (fun i hi j hj => by
      obtain rfl : i = 0 := by omega
      have hj : j < 10 := hj
      obtain rfl | rfl | rfl | rfl | rfl | rfl | rfl | rfl | rfl | rfl : j = 0 ∨ j = 1 ∨ j = 2 ∨ j = 3 ∨ j = 4 ∨ j = 5 ∨ j = 6 ∨ j = 7 ∨ j = 8 ∨ j = 9 := by omega
      · exact nw hG [false, false, true, true, false, false, false, true] rfl
      · exact nw hG [false, false, true, true, false, false, false, false, true] rfl
      · exact nw hG [false, false, true, true, false, false, false, false, false] rfl
      · exact nw hG [false, false, true, false, true, true, true, true] rfl
      · exact nw hG [false, false, true, false, true, true, true, false, true] rfl
      · exact nw hG [false, false, true, false, true, true, true, false, false] rfl
      · exact nw hG [false, false, true, false, true, true, false, true] rfl
      · exact nw hG [false, false, true, false, true, true, false, false, true] rfl
      · exact nw hG [false, false, true, false, true, true, false, false, false] rfl
      · exact nw hG [false, false, true, false, true, false, true, true] rfl
      )
    (fun i j hi hj hne => absurd (show i = j by omega) hne) (fun _ h => Nat.not_le.mpr h)
  refine ⟨adK 0, adV 0, ⟨fun i hi => ?_, fun i j hi hj _ => by omega⟩, vk_R.of (hG.1 _ q1000) (h2 0 Nat.one_pos)⟩
  obtain rfl : i = 0 := by omega
  exact h1.1 0 Nat.one_pos
theorem kLitR (hG : mKn G) : ∃ a b, mLit G litB a b ∧ vk_R "PloughWills$Reader" 48 "()bguwp[|]" a (mGs G) := by
  obtain ⟨adK, adV, h1, h2⟩ := vk_Sof (args := mGv G) (s := mGs G) (N := 1) (tm := fun _ => .string "PloughWills$Reader" 48) (len := [10]) (byt := [litB]) (A := mFree G)
    (fun i hi => by obtain rfl : i = 0 := by omega
                    decide)
    (fun _ _ => nw hG [false, false, true, false, false, true, true, false, false] rfl) (fun _ _ => nw hG [false, false, true, false, false, true, false, true] rfl) (fun _ _ => nw hG [false, false, true, false, false, true, false, false, true] rfl)
    (fun i hi => by obtain rfl : i = 0 := by omega
                    exact nw hG [false, false, true, false, false, true, false, false, false] rfl)
    (fun i hi j hj => by
      obtain rfl : i = 0 := by omega
      have hj : j < 10 := hj
      obtain rfl | rfl | rfl | rfl | rfl | rfl | rfl | rfl | rfl | rfl : j = 0 ∨ j = 1 ∨ j = 2 ∨ j = 3 ∨ j = 4 ∨ j = 5 ∨ j = 6 ∨ j = 7 ∨ j = 8 ∨ j = 9 := by omega
      · exact nw hG [false, false, true, false, false, false, true, true] rfl
      · exact nw hG [false, false, true, false, false, false, true, false, true] rfl
      · exact nw hG [false, false, true, false, false, false, true, false, false] rfl
      · exact nw hG [false, false, true, false, false, false, false, true] rfl
      · exact nw hG [false, false, true, false, false, false, false, false, true] rfl
      · exact nw hG [false, false, true, false, false, false, false, false, false] rfl
      · exact nw hG [false, false, false, true, true, true, true, true] rfl
      · exact nw hG [false, false, false, true, true, true, true, false] rfl
      · exact nw hG [false, false, false, true, true, true, false, true] rfl
      · exact nw hG [false, false, false, true, true, true, false, false, true] rfl
      )
    (fun i j hi hj hne => absurd (show i = j by omega) hne) (fun _ h => Nat.not_le.mpr h)
  refine ⟨adK 0, adV 0, ⟨fun i hi => ?_, fun i j hi hj _ => by omega⟩, vk_R.of (hG.1 _ q1564) (h2 0 Nat.one_pos)⟩
  obtain rfl : i = 0 := by omega
  exact h1.1 0 Nat.one_pos
end LIT
