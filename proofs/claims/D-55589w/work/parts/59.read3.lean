/-- the first clause told that there can't be, by its detail -/
def fBad (m : Nat) : List (Nat × Nat × Nat) → Option Int32
  | [] => none
  | z :: r => match clBad m z.1 (nI z.2.1) (nI z.2.2) with
    | some dt => some dt
    | none => fBad m r
def lS (cl : List (Nat × Nat × Nat)) (k : Nat) : Nat := (cl.getD k (0, 0, 0)).1
def lO (cl : List (Nat × Nat × Nat)) (k : Nat) : Nat := clOne (cl.getD k (0, 0, 0)).1 (nI (cl.getD k (0, 0, 0)).2.1)
def lT (cl : List (Nat × Nat × Nat)) (k : Nat) : Nat := clTwo (cl.getD k (0, 0, 0)).1 (nI (cl.getD k (0, 0, 0)).2.2)
def spRead (X : XT) : RT :=
  let r := rd (xT X); let Y := xTxt X [] r.1
  if r.1 ≠ 0 then (1, 0, Y) else if 24 < r.2.length then (2, 0, xRef Y 2 (nI r.2.length))
  else match fBad (wm (xW X)) r.2 with
    | some dt => (2, 0, xRef Y 3 dt)
    | none => (0, nI r.2.length, xDo Y (wCl (xW X) r.2.length (lS r.2) (lO r.2) (lT r.2)))
theorem clBad_congr {m s : Nat} {o t' o' t'' : Int32} (h1 : 2 ≤ s ∧ s ≤ 6 → o = o') (h2 : s = 4 ∨ s = 5 → t' = t'') : clBad m s o t' = clBad m s o' t'' := by
  unfold clBad
  by_cases a : 2 ≤ s ∧ s ≤ 6
  · rw [h1 a]
    by_cases b : s = 4 ∨ s = 5
    · rw [h2 b]
    · rw [if_neg (c := (s = 4 ∨ s = 5) ∧ ¬ inB t' m = true) (fun h => b h.1), if_neg (c := (s = 4 ∨ s = 5) ∧ ¬ inB t'' m = true) (fun h => b h.1)]
  · rw [if_neg (fun h => a (by omega)), if_neg (fun h => a (by omega)), if_neg (fun h => a (by omega)), if_neg (fun h => a (by omega)), if_neg (fun h => a (by omega)), if_neg (fun h => a (by omega))]
theorem rdF_ok (tx : Nat → Nat) (n : Nat) : ∀ f i, (rdF tx n f i).1 ≤ n + 1 ∧ (rdF tx n f i).2.length + i ≤ max n i ∧ ∀ z ∈ (rdF tx n f i).2, z.1 < 10
  | 0, i => ⟨Nat.zero_le _, by show 0 + i ≤ _; omega, fun z hz => by cases hz⟩
  | f + 1, i => by
    have ih := rdF_ok tx n f
    have hs := sIx_le (tx i)
    have i1 := ih (i + 1); have i2 := ih (i + 2); have i3 := ih (i + 3)
    unfold rdF
    split
    · exact ⟨Nat.zero_le _, by show 0 + i ≤ _; omega, fun z hz => by cases hz⟩
    rename_i hn
    split
    · exact ⟨by show i + 1 ≤ _; omega, by show 0 + i ≤ _; omega, fun z hz => by cases hz⟩
    rename_i h0
    split
    · split
      · exact ⟨by show i + 2 ≤ _; omega, by show 0 + i ≤ _; omega, fun z hz => by cases hz⟩
      · rename_i hd
        have hd1 : i + 1 < n := by
          cases hx : dgB tx n (i + 1) with
          | false => exact absurd hx hd
          | true => have := of_decide_eq_true hx; omega
        split
        · exact ⟨by show i + 3 ≤ _; omega, by show 0 + i ≤ _; omega, fun z hz => by cases hz⟩
        · rename_i hd'
          have hd2 : i + 2 < n := by
            cases hx : dgB tx n (i + 2) with
            | false => exact absurd hx hd'
            | true => have := of_decide_eq_true hx; omega
          refine ⟨i3.1, by simp only [List.length_cons]; omega, fun z hz => ?_⟩
          rcases List.mem_cons.mp hz with rfl | hz
          · show _ - 1 < 10; omega
          · exact i3.2.2 z hz
    · split
      · split
        · exact ⟨by show i + 2 ≤ _; omega, by show 0 + i ≤ _; omega, fun z hz => by cases hz⟩
        · rename_i hd
          have hd1 : i + 1 < n := by
            cases hx : dgB tx n (i + 1) with
            | false => exact absurd hx hd
            | true => have := of_decide_eq_true hx; omega
          refine ⟨i2.1, by simp only [List.length_cons]; omega, fun z hz => ?_⟩
          rcases List.mem_cons.mp hz with rfl | hz
          · show _ - 1 < 10; omega
          · exact i2.2.2 z hz
      · refine ⟨i1.1, by simp only [List.length_cons]; omega, fun z hz => ?_⟩
        rcases List.mem_cons.mp hz with rfl | hz
        · show _ - 1 < 10; omega
        · exact i1.2.2 z hz
theorem rd_ok (T : List Nat) : (rd T).1 ≤ T.length + 1 ∧ (rd T).2.length ≤ T.length ∧ ∀ z ∈ (rd T).2, z.1 < 10 := by
  unfold rd
  split
  · exact ⟨by show 1 ≤ _; omega, Nat.zero_le _, fun z hz => by cases hz⟩
  · have := rdF_ok (fun i => T.getD i 0) T.length T.length 0
    refine ⟨this.1, ?_, this.2.2⟩
    have h2 := this.2.1
    omega
theorem fBad_none {m : Nat} : ∀ {cl : List (Nat × Nat × Nat)}, fBad m cl = none → ∀ (k : Nat) (z : Nat × Nat × Nat), cl[k]? = some z → clBad m z.1 (nI z.2.1) (nI z.2.2) = none
  | [], _, k, z, hz => by cases hz
  | y :: r, h, k, z, hz => by
    unfold fBad at h
    split at h
    · cases h
    · rename_i hy
      cases k with
      | zero => cases hz; exact hy
      | succ k => exact fBad_none h k z hz
theorem fBad_some {m : Nat} {dt : Int32} : ∀ {cl : List (Nat × Nat × Nat)} {k : Nat} {z : Nat × Nat × Nat}, (∀ (j : Nat) (y : Nat × Nat × Nat), j < k → cl[j]? = some y → clBad m y.1 (nI y.2.1) (nI y.2.2) = none) → cl[k]? = some z → clBad m z.1 (nI z.2.1) (nI z.2.2) = some dt → fBad m cl = some dt
  | [], k, z, _, hz, _ => by cases hz
  | y :: r, 0, z, _, hz, h => by
    cases hz
    unfold fBad; rw [h]
  | y :: r, k + 1, z, hh, hz, h => by
    have h0 := hh 0 y (by omega) rfl
    unfold fBad; rw [h0]
    exact fBad_some (fun j y hj hy => hh (j + 1) y (by omega) hy) hz h
