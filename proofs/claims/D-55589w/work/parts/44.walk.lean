/-! ===== going through the clauses: what is so ===== -/
/-- what is so, in one row: of 8 goods what they are (0: away, 1: here, 2: unsure), of 8 goods to what they belong; of 5 ploughs the good (as a successor), whether it is for work, to what it belongs -/
abbrev ZR : Type := Nat → Nat
/-- what is so, and what is open, the innermost first: what ends it, what was so as it began, what was so behind the first branch -/
abbrev ZT : Type := ZR × List (Nat × ZR × ZR)
/-- what is wrong: the reason, the place and the detail as successors -/
abbrev ZE : Type := Nat × Nat × Nat
/-- the lowest of n numbers from a on, as a successor -/
def loF (P : Nat → Bool) (a : Nat) : Nat → Nat
  | 0 => 0
  | n + 1 => if P a = true then a + 1 else loF P (a + 1) n
theorem loF_le (P : Nat → Bool) : ∀ n a, loF P a n ≤ a + n
  | 0, a => Nat.zero_le _
  | n + 1, a => by have := loF_le P n (a + 1); unfold loF; split <;> omega
theorem loF_at {P : Nat → Bool} : ∀ {n a g : Nat}, loF P a n = g + 1 → P g = true ∧ a ≤ g ∧ g < a + n
  | 0, a, g, h => by simp [loF] at h
  | n + 1, a, g, h => by
    unfold loF at h
    split at h
    · rename_i hp
      have : a = g := by omega
      subst this
      exact ⟨hp, Nat.le_refl _, by omega⟩
    · have := loF_at h
      exact ⟨this.1, by omega, by omega⟩
theorem loF_no {P : Nat → Bool} : ∀ {n a : Nat}, loF P a n = 0 → ∀ g, a ≤ g → g < a + n → P g = false
  | 0, a, _, g, h1, h2 => by omega
  | n + 1, a, h, g, h1, h2 => by
    unfold loF at h
    split at h
    · omega
    · rename_i hp
      rcases Nat.lt_or_ge a g with h3 | h3
      · exact loF_no h g h3 (by omega)
      · have : a = g := by omega
        subst this
        exact Bool.not_eq_true _ ▸ hp
theorem loF_congr {P P' : Nat → Bool} : ∀ {n a : Nat}, (∀ g, a ≤ g → g < a + n → P g = P' g) → loF P a n = loF P' a n
  | 0, _, _ => rfl
  | n + 1, a, h => by
    unfold loF
    rw [h a (Nat.le_refl _) (by omega), loF_congr (fun g h1 h2 => h g (by omega) (by omega))]
/-- a linear good that is here and belongs to a depth -/
def zLP (m : Nat) (k : Nat → Nat) (z : ZR) (dp g : Nat) : Bool := decide (g < m ∧ k g = 0 ∧ z g = 1 ∧ z (8 + g) = dp)
def zLeft (m : Nat) (k : Nat → Nat) (z : ZR) (dp : Nat) : Nat := loF (zLP m k z dp) 0 8
def zEnd (z : ZR) (dp : Nat) : ZR := fun j => if j < 8 ∧ z (8 + j) = dp then 0 else if (16 ≤ j ∧ j < 21) ∧ z (10 + j) = dp then 0 else z j
/-- how many ploughs are on a good, or those for work alone -/
def zOn (z : ZR) (g : Nat) (w : Bool) : Nat := cntF (fun p => decide (z (16 + p) = g + 1 ∧ (w = true → z (21 + p) = 1))) 5
def zUP (k : Nat → Nat) (z f : ZR) (g : Nat) : Bool := decide (k g = 0 ∧ f g ≠ z g)
def zUn (m : Nat) (k : Nat → Nat) (z f : ZR) : Nat := loF (zUP k z f) 0 m
def zMeet (m : Nat) (z f : ZR) : ZR := fun j => if j < m ∧ f j ≠ z j then 2 else if (8 ≤ j ∧ j < 8 + m) ∧ f (j - 8) ≠ z (j - 8) ∧ z (j - 8) = 0 then f j else z j
def zBring (z : ZR) (g dp : Nat) : ZR := fU (fU z g 1) (8 + g) dp
def zPut (z : ZR) (p g dp : Nat) (w : Bool) : ZR := fU (fU (fU z (16 + p) (g + 1)) (21 + p) (if w = true then 1 else 0)) (26 + p) dp
def zStep (W : WT) (pa : Bool) (k : Nat) (Z : ZT) : ZE ⊕ ZT :=
  let s := wso W k; let o := won W k; let t := wot W k; let z := Z.1; let dp := Z.2.length
  if s = 0 then .inr (z, (1, z, z) :: Z.2)
  else if s = 7 then .inr (z, (8, z, z) :: Z.2)
  else if isEn s = true then
    match Z.2 with
    | [] => .inl (1, k + 1, s + 1)
    | (e, a, b) :: r =>
      if e ≠ s then .inl (1, k + 1, s + 1)
      else if 0 < zLeft (wm W) (wk W) z dp then .inl (7, k + 1, zLeft (wm W) (wk W) z dp)
      else if s = 1 then .inr (zEnd z dp, r)
      else if s = 8 then (if pa = true then .inr (zEnd z dp, (9, a, b) :: r) else .inr (a, (9, a, zEnd z dp) :: r))
      else if pa = true then .inr (zEnd z dp, r)
      else if 0 < zUn (wm W) (wk W) (zEnd z dp) b then .inl (8, k + 1, zUn (wm W) (wk W) (zEnd z dp) b)
      else .inr (zMeet (wm W) (zEnd z dp) b, r)
  else if s = 2 then (if z o ≠ 0 then .inl (2, k + 1, o + 1) else .inr (zBring z o dp, Z.2))
  else if s = 3 then (if z o ≠ 1 then .inl (3, k + 1, o + 1) else if 0 < zOn z o false then .inl (4, k + 1, o + 1) else .inr (fU z o (if wk W o = 2 then 1 else 0), Z.2))
  else if s = 6 then (if z (16 + o) = 0 then .inl (5, k + 1, o + 1) else .inr (z, Z.2))
  else if z t ≠ 1 then .inl (3, k + 1, t + 1) else if 0 < zOn z t (!decide (s = 5)) then .inl (4, k + 1, t + 1) else if 0 < z (16 + o) then .inl (6, k + 1, o + 1)
  else .inr (zPut z o t dp (decide (s = 5)), Z.2)
/-- the first n clauses; those that on tells alone -/
def zRun (W : WT) (pa : Bool) (on : Nat → Bool) : Nat → ZE ⊕ ZT
  | 0 => .inr (fun _ => 0, [])
  | n + 1 => match zRun W pa on n with
    | .inl e => .inl e
    | .inr Z => if on n = true then zStep W pa n Z else .inr Z
/-- what is wrong in all; (0, 0, 0): nothing -/
def zFin (W : WT) (r : ZE ⊕ ZT) : ZE := match r with
  | .inl e => e
  | .inr Z => match Z.2 with
    | (e, _, _) :: _ => (1, wn W + 1, e + 1)
    | [] => if 0 < zLeft (wm W) (wk W) Z.1 0 then (7, wn W + 1, zLeft (wm W) (wk W) Z.1 0) else (0, 0, 0)
def zAll (W : WT) : ZE := zFin W (zRun W false (fun _ => true) (wn W))
/-- all is small -/
def zB (z : ZR) : Prop := ∀ j, z j ≤ 30
theorem sE_n {j x : Nat} (h : j % 31 < 16 ∨ 21 ≤ j % 31) : sE j x = nI x := by unfold sE; rw [if_neg (by omega)]
theorem sE_p {j x : Nat} (h : 16 ≤ j % 31 ∧ j % 31 < 21) : sE j x = pI x := by unfold sE; rw [if_pos h]
theorem sE_s {i j x : Nat} (h : i % 31 = j % 31) : sE i x = sE j x := by unfold sE; rw [h]
section WALK
variable {G : mG} {y : mY} {d pc : Nat} {L : List (Option Value)} {st : List Value} {B M : mM} {m t u : Nat} {F : Nat → Nat} {D : Int32} {A : Nat → Nat → Nat} {Q : mQt}
theorem r_mcopyS {n0 n1 a0 a i sp dp n : Nat} {f g : Nat → Nat} (hM0 : M a0 = some (.inl (0, n0, fun j => .int (sE j (f j))))) (hM1 : M a = some (.inl (0, n1, fun j => .int (sE j (g j))))) (hw : Cond.methodLink (mYn y).cls i arraycopyName ∈ lw_all) (h4 : sp + n ≤ n0) (h5 : dp + n ≤ n1) (hm : sp % 31 = dp % 31) (h6 : n0 < 2147483648) (h7 : n1 < 2147483648) (hge : mGb G ≤ a)
    (hr : (st.map fun v => v.category).sum ≤ 8) (hd : decode (mYc y) pc = .ok (.invokestatic i, 3)) (kk : mW G y d (pc + 3) L st (mset M a (.inl (0, n1, fun j => .int (sE j (va_cpy f g sp dp n j))))) t u Q) : mW G y d pc L (.int (nI n) :: .int (nI dp) :: .ref a :: .int (nI sp) :: .ref a0 :: st) M t u Q :=
  r_acopy hM0 hM1 rfl rfl rfl hw h4 h5 h6 h7 hge (fun j _ => Or.inl ⟨rfl, fun b h => by cases h⟩) (fun j hj => by
    unfold va_cpy
    split
    · rename_i h
      show Value.int (sE (sp + (j - dp)) (f (sp + (j - dp)))) = _
      rw [sE_s (i := sp + (j - dp)) (j := j) (by omega)]
    · rfl) hr hd kk
theorem m_errs (h : MAt B M m F D A) (hb : mGb G ≤ m) (r k w : Nat) (hq : ∀ M, MAt B M m (fU (fU (fU F 19 r) 20 k) 21 w) D A → Q (.inl (some (.int (bI false)))) M t u) : mMet G d zX8_errs [.ref m, .int (nI r), .int (pI k), .int (pI w)] M t u Q := by
  refine m_intro (by decide +kernel) ⟨Nat.le_of_ble_eq_true rfl, Nat.le_of_ble_eq_true rfl⟩ ?_
  show mW G _ _ 0 [some (.ref m), some (.int (nI r)), some (.int (pI k)), some (.int (pI w))] [] _ _ _ _
  first | refine r_aload_n dX8_errs_0 rfl ?_ | refine r_aload_nq dX8_errs_0 rfl ?_ | refine r_aload_nN dX8_errs_0 rfl ?_
  refine r_iload_n dX8_errs_1 rfl ?_
  refine r_putf f_X8_176_7 ft_7_19 (by first | exact MAt.o (by assumption) | exact MAt.a1 (by assumption) | exact MAt.a2 (by assumption) | exact MAt.a3 (by assumption) | exact MAt.a4 (by assumption) | exact MAt.a5 (by assumption) | exact MAt.a6 (by assumption) | exact MAt.a7 (by assumption) | exact MAt.a8 (by assumption) | exact MAt.a9 (by assumption) | exact MAt.a10 (by assumption) | exact MAt.a11 (by assumption) | exact MAt.a12 (by assumption) | exact MAt.a13 (by assumption) | exact MAt.a14 (by assumption) | exact MAt.a15 (by assumption) | exact MAt.a16 (by assumption)) (by omega) (by first | rfl | exact bI_nar _) (by first | rfl | exact bI_fit _) dX8_errs_2 ?_
  refine MAt.p19 (by assumption) (fun M hM => ?_)
  first | refine r_aload_n dX8_errs_5 rfl ?_ | refine r_aload_nq dX8_errs_5 rfl ?_ | refine r_aload_nN dX8_errs_5 rfl ?_
  refine r_iload_n dX8_errs_6 rfl ?_
  refine r_putf f_X8_179_7 ft_7_20 (by first | exact MAt.o (by assumption) | exact MAt.a1 (by assumption) | exact MAt.a2 (by assumption) | exact MAt.a3 (by assumption) | exact MAt.a4 (by assumption) | exact MAt.a5 (by assumption) | exact MAt.a6 (by assumption) | exact MAt.a7 (by assumption) | exact MAt.a8 (by assumption) | exact MAt.a9 (by assumption) | exact MAt.a10 (by assumption) | exact MAt.a11 (by assumption) | exact MAt.a12 (by assumption) | exact MAt.a13 (by assumption) | exact MAt.a14 (by assumption) | exact MAt.a15 (by assumption) | exact MAt.a16 (by assumption)) (by omega) (by first | rfl | exact bI_nar _) (by first | rfl | exact bI_fit _) dX8_errs_7 ?_
  refine MAt.p20 (by assumption) (fun M hM => ?_)
  first | refine r_aload_n dX8_errs_10 rfl ?_ | refine r_aload_nq dX8_errs_10 rfl ?_ | refine r_aload_nN dX8_errs_10 rfl ?_
  refine r_iload_n dX8_errs_11 rfl ?_
  refine r_putf f_X8_182_7 ft_7_21 (by first | exact MAt.o (by assumption) | exact MAt.a1 (by assumption) | exact MAt.a2 (by assumption) | exact MAt.a3 (by assumption) | exact MAt.a4 (by assumption) | exact MAt.a5 (by assumption) | exact MAt.a6 (by assumption) | exact MAt.a7 (by assumption) | exact MAt.a8 (by assumption) | exact MAt.a9 (by assumption) | exact MAt.a10 (by assumption) | exact MAt.a11 (by assumption) | exact MAt.a12 (by assumption) | exact MAt.a13 (by assumption) | exact MAt.a14 (by assumption) | exact MAt.a15 (by assumption) | exact MAt.a16 (by assumption)) (by omega) (by first | rfl | exact bI_nar _) (by first | rfl | exact bI_fit _) dX8_errs_12 ?_
  refine MAt.p21 (by assumption) (fun M hM => ?_)
  refine r_iconst (v := nI 0) dX8_errs_15 (by decide) ?_
  refine r_iret rfl (by first | rfl | exact bI_nar _) dX8_errs_16 ?_
  exact hq _ hM
theorem m_begins (h : MAt B M m F D A) (hb : mGb G ≤ m) (hq : ∀ M A', MAt B M m (fU (fU (fU (fU F 18 0) 19 0) 20 0) 21 0) D A' → (∀ i, i ≠ 10 → A' i = A i) → (∀ j, j < 31 → A' 10 j = 0) → Q (.inl none) M t u) : mMet G d zX8_begins [.ref m] M t u Q := by
  refine m_intro (by decide +kernel) ⟨Nat.le_of_ble_eq_true rfl, Nat.le_of_ble_eq_true rfl⟩ ?_
  show mW G _ _ 0 [some (.ref m), none] [] _ _ _ _
  have loop : ∀ n i M A', i + n = 31 → MAt B M m F D A' → (∀ i, i ≠ 10 → A' i = A i) → (∀ j, j < i → A' 10 j = 0) → mW G zX8_begins d 2 [some (.ref m), some (.int (nI i))] [] M t u Q := by
    intro n
    induction n with
    | zero =>
      intro i M A' hi hM ha hz
      refine r_iload_n dX8_begins_2 rfl ?_
      refine r_bipush (v := nI 31) dX8_begins_3 (by decide) ?_
      first | refine r_icmp_ge_n (tgt := 37) dX8_begins_5 (by decide) (by omega) (by omega) (fun h5 => ?_) (fun h5 => by exfalso; omega) | refine r_icmp_ge (tgt := 37) dX8_begins_5 (by decide) (fun h5 => ?_) (fun h5 => by exfalso; omega)
      first | refine r_aload_n dX8_begins_37 rfl ?_ | refine r_aload_nq dX8_begins_37 rfl ?_ | refine r_aload_nN dX8_begins_37 rfl ?_
      refine r_iconst (v := nI 0) dX8_begins_38 (by decide) ?_
      refine r_putf f_X8_173_7 ft_7_18 (by first | exact MAt.o (by assumption) | exact MAt.a1 (by assumption) | exact MAt.a2 (by assumption) | exact MAt.a3 (by assumption) | exact MAt.a4 (by assumption) | exact MAt.a5 (by assumption) | exact MAt.a6 (by assumption) | exact MAt.a7 (by assumption) | exact MAt.a8 (by assumption) | exact MAt.a9 (by assumption) | exact MAt.a10 (by assumption) | exact MAt.a11 (by assumption) | exact MAt.a12 (by assumption) | exact MAt.a13 (by assumption) | exact MAt.a14 (by assumption) | exact MAt.a15 (by assumption) | exact MAt.a16 (by assumption)) (by omega) (by first | rfl | exact bI_nar _) (by first | rfl | exact bI_fit _) dX8_begins_39 ?_
      refine MAt.p18 (by assumption) (fun M hM => ?_)
      first | refine r_aload_n dX8_begins_42 rfl ?_ | refine r_aload_nq dX8_begins_42 rfl ?_ | refine r_aload_nN dX8_begins_42 rfl ?_
      refine r_iconst (v := nI 0) dX8_begins_43 (by decide) ?_
      refine r_putf f_X8_176_7 ft_7_19 (by first | exact MAt.o (by assumption) | exact MAt.a1 (by assumption) | exact MAt.a2 (by assumption) | exact MAt.a3 (by assumption) | exact MAt.a4 (by assumption) | exact MAt.a5 (by assumption) | exact MAt.a6 (by assumption) | exact MAt.a7 (by assumption) | exact MAt.a8 (by assumption) | exact MAt.a9 (by assumption) | exact MAt.a10 (by assumption) | exact MAt.a11 (by assumption) | exact MAt.a12 (by assumption) | exact MAt.a13 (by assumption) | exact MAt.a14 (by assumption) | exact MAt.a15 (by assumption) | exact MAt.a16 (by assumption)) (by omega) (by first | rfl | exact bI_nar _) (by first | rfl | exact bI_fit _) dX8_begins_44 ?_
      refine MAt.p19 (by assumption) (fun M hM => ?_)
      first | refine r_aload_n dX8_begins_47 rfl ?_ | refine r_aload_nq dX8_begins_47 rfl ?_ | refine r_aload_nN dX8_begins_47 rfl ?_
      refine r_iconst (v := -1) dX8_begins_48 (by decide) ?_
      refine r_putf f_X8_179_7 ft_7_20 (by first | exact MAt.o (by assumption) | exact MAt.a1 (by assumption) | exact MAt.a2 (by assumption) | exact MAt.a3 (by assumption) | exact MAt.a4 (by assumption) | exact MAt.a5 (by assumption) | exact MAt.a6 (by assumption) | exact MAt.a7 (by assumption) | exact MAt.a8 (by assumption) | exact MAt.a9 (by assumption) | exact MAt.a10 (by assumption) | exact MAt.a11 (by assumption) | exact MAt.a12 (by assumption) | exact MAt.a13 (by assumption) | exact MAt.a14 (by assumption) | exact MAt.a15 (by assumption) | exact MAt.a16 (by assumption)) (by omega) (by first | rfl | exact bI_nar _) (by first | rfl | exact bI_fit _) dX8_begins_49 ?_
      refine MAt.p20 (x := 0) (by assumption) (fun M hM => ?_)
      first | refine r_aload_n dX8_begins_52 rfl ?_ | refine r_aload_nq dX8_begins_52 rfl ?_ | refine r_aload_nN dX8_begins_52 rfl ?_
      refine r_iconst (v := -1) dX8_begins_53 (by decide) ?_
      refine r_putf f_X8_182_7 ft_7_21 (by first | exact MAt.o (by assumption) | exact MAt.a1 (by assumption) | exact MAt.a2 (by assumption) | exact MAt.a3 (by assumption) | exact MAt.a4 (by assumption) | exact MAt.a5 (by assumption) | exact MAt.a6 (by assumption) | exact MAt.a7 (by assumption) | exact MAt.a8 (by assumption) | exact MAt.a9 (by assumption) | exact MAt.a10 (by assumption) | exact MAt.a11 (by assumption) | exact MAt.a12 (by assumption) | exact MAt.a13 (by assumption) | exact MAt.a14 (by assumption) | exact MAt.a15 (by assumption) | exact MAt.a16 (by assumption)) (by omega) (by first | rfl | exact bI_nar _) (by first | rfl | exact bI_fit _) dX8_begins_54 ?_
      refine MAt.p21 (x := 0) (by assumption) (fun M hM => ?_)
      refine r_vret rfl dX8_begins_57 ?_
      exact hq _ _ hM ha (fun j hj => hz j (by omega))
    | succ n ih =>
      intro i M A' hi hM ha hz
      have nx : ∀ M, MAt B M m F D (fA A' 10 (fU (A' 10) i 0)) → mW G zX8_begins d 31 [some (.ref m), some (.int (nI i))] [] M t u Q := by
        intro M hM
        first | refine r_iinc_n 1 dX8_begins_31 rfl (by decide) ?_ | refine r_iinc dX8_begins_31 rfl rfl (by decide) ?_
        simp only [mst1, mclr]
        refine r_goto (tgt := 2) dX8_begins_34 (by decide) ?_
        refine ih (i + 1) M _ (by omega) hM (fun k hk => by rw [fA_ne hk]; exact ha k hk) (fun j hj => ?_)
        rw [fA_eq]
        rcases Nat.lt_or_ge j i with h | h
        · rw [fU_ne (by omega)]; exact hz j h
        · rw [show j = i by omega, fU_eq]
      refine r_iload_n dX8_begins_2 rfl ?_
      refine r_bipush (v := nI 31) dX8_begins_3 (by decide) ?_
      first | refine r_icmp_ge_n (tgt := 37) dX8_begins_5 (by decide) (by omega) (by omega) (fun h5 => by exfalso; omega) (fun h5 => ?_) | refine r_icmp_ge (tgt := 37) dX8_begins_5 (by decide) (fun h5 => by exfalso; omega) (fun h5 => ?_)
      first | refine r_aload_n dX8_begins_8 rfl ?_ | refine r_aload_nq dX8_begins_8 rfl ?_ | refine r_aload_nN dX8_begins_8 rfl ?_
      refine r_getf f_X8_37_7 (by first | exact MAt.o (by assumption) | exact MAt.a1 (by assumption) | exact MAt.a2 (by assumption) | exact MAt.a3 (by assumption) | exact MAt.a4 (by assumption) | exact MAt.a5 (by assumption) | exact MAt.a6 (by assumption) | exact MAt.a7 (by assumption) | exact MAt.a8 (by assumption) | exact MAt.a9 (by assumption) | exact MAt.a10 (by assumption) | exact MAt.a11 (by assumption) | exact MAt.a12 (by assumption) | exact MAt.a13 (by assumption) | exact MAt.a14 (by assumption) | exact MAt.a15 (by assumption) | exact MAt.a16 (by assumption)) (by rfl) dX8_begins_9 ?_
      refine r_iload_n dX8_begins_12 rfl ?_
      refine r_iload_n dX8_begins_13 rfl ?_
      refine r_bipush (v := nI 16) dX8_begins_14 (by decide) ?_
      first | refine r_icmp_lt_n (tgt := 29) dX8_begins_16 (by decide) (by omega) (by omega) (fun h16 => ?_) (fun h16 => ?_) | refine r_icmp_lt (tgt := 29) dX8_begins_16 (by decide) (fun h16 => ?_) (fun h16 => ?_)
      · refine r_iconst (v := nI 0) dX8_begins_29 (by decide) ?_
        refine r_iast_n (by first | exact MAt.o (by assumption) | exact MAt.a1 (by assumption) | exact MAt.a2 (by assumption) | exact MAt.a3 (by assumption) | exact MAt.a4 (by assumption) | exact MAt.a5 (by assumption) | exact MAt.a6 (by assumption) | exact MAt.a7 (by assumption) | exact MAt.a8 (by assumption) | exact MAt.a9 (by assumption) | exact MAt.a10 (by assumption) | exact MAt.a11 (by assumption) | exact MAt.a12 (by assumption) | exact MAt.a13 (by assumption) | exact MAt.a14 (by assumption) | exact MAt.a15 (by assumption) | exact MAt.a16 (by assumption)) (by rfl) (by omega) (by omega) (by omega) dX8_begins_30 ?_
        refine MAt.g10 0 (by assumption) (by first | (refine Eq.trans (show _ = nI (0) from rfl) (sE_n ?_).symm; omega) | (refine Eq.trans (show _ = pI (0) from rfl) (sE_p ?_).symm; omega)) (fun M hM => ?_)
        exact nx _ hM
      · refine r_iload_n dX8_begins_19 rfl ?_
        refine r_bipush (v := nI 21) dX8_begins_20 (by decide) ?_
        first | refine r_icmp_ge_n (tgt := 29) dX8_begins_22 (by decide) (by omega) (by omega) (fun h22 => ?_) (fun h22 => ?_) | refine r_icmp_ge (tgt := 29) dX8_begins_22 (by decide) (fun h22 => ?_) (fun h22 => ?_)
        · refine r_iconst (v := nI 0) dX8_begins_29 (by decide) ?_
          refine r_iast_n (by first | exact MAt.o (by assumption) | exact MAt.a1 (by assumption) | exact MAt.a2 (by assumption) | exact MAt.a3 (by assumption) | exact MAt.a4 (by assumption) | exact MAt.a5 (by assumption) | exact MAt.a6 (by assumption) | exact MAt.a7 (by assumption) | exact MAt.a8 (by assumption) | exact MAt.a9 (by assumption) | exact MAt.a10 (by assumption) | exact MAt.a11 (by assumption) | exact MAt.a12 (by assumption) | exact MAt.a13 (by assumption) | exact MAt.a14 (by assumption) | exact MAt.a15 (by assumption) | exact MAt.a16 (by assumption)) (by rfl) (by omega) (by omega) (by omega) dX8_begins_30 ?_
          refine MAt.g10 0 (by assumption) (by first | (refine Eq.trans (show _ = nI (0) from rfl) (sE_n ?_).symm; omega) | (refine Eq.trans (show _ = pI (0) from rfl) (sE_p ?_).symm; omega)) (fun M hM => ?_)
          exact nx _ hM
        · refine r_iconst (v := -1) dX8_begins_25 (by decide) ?_
          refine r_goto (tgt := 30) dX8_begins_26 (by decide) ?_
          refine r_iast_n (by first | exact MAt.o (by assumption) | exact MAt.a1 (by assumption) | exact MAt.a2 (by assumption) | exact MAt.a3 (by assumption) | exact MAt.a4 (by assumption) | exact MAt.a5 (by assumption) | exact MAt.a6 (by assumption) | exact MAt.a7 (by assumption) | exact MAt.a8 (by assumption) | exact MAt.a9 (by assumption) | exact MAt.a10 (by assumption) | exact MAt.a11 (by assumption) | exact MAt.a12 (by assumption) | exact MAt.a13 (by assumption) | exact MAt.a14 (by assumption) | exact MAt.a15 (by assumption) | exact MAt.a16 (by assumption)) (by rfl) (by omega) (by omega) (by omega) dX8_begins_30 ?_
          refine MAt.g10 0 (by assumption) (by first | (refine Eq.trans (show _ = nI (0) from rfl) (sE_n ?_).symm; omega) | (refine Eq.trans (show _ = pI (0) from rfl) (sE_p ?_).symm; omega)) (fun M hM => ?_)
          exact nx _ hM
  refine r_iconst (v := nI 0) dX8_begins_0 (by decide) ?_
  refine r_istore_n dX8_begins_1 (by decide) ?_
  simp only [mst1, mclr]
  exact loop 31 0 M A (by omega) h (fun _ _ => rfl) (fun j hj => absurd hj (Nat.not_lt_zero j))
theorem nI_m1 : ∀ i, nI i + (-1) = pI i
  | 0 => by decide
  | i + 1 => pk_m1 i
theorem nI_s1 : ∀ i, nI i - nI 1 = pI i
  | 0 => by decide
  | i + 1 => by rw [pk_sub (by omega)]; rfl
theorem m_leftOf (h : MAt B M m F D A) (w : Nat) (hw : w < 100) (hm : A 1 0 ≤ 8) (hk : ∀ g, g < A 1 0 → A 1 (21 + g) < 3) (hz : ∀ j, j < 31 → A 10 j ≤ 30)
   (hq : Q (.inl (some (.int (pI (zLeft (A 1 0) (fun g => A 1 (21 + g)) (A 10) w))))) M t u) : mMet G d zX8_leftOf [.ref m, .int (nI w)] M t u Q := by
  refine m_intro (by decide +kernel) ⟨Nat.le_of_ble_eq_true rfl, Nat.le_of_ble_eq_true rfl⟩ ?_
  show mW G _ _ 0 [some (.ref m), some (.int (nI w)), none, none] [] _ _ _ _
  have loop : ∀ i n, i + n = 8 → mW G zX8_leftOf d 5 [some (.ref m), some (.int (nI w)), some (.int (pI (loF (zLP (A 1 0) (fun g => A 1 (21 + g)) (A 10) w) i n))), some (.int (pI i))] [] M t u Q := by
    intro i
    induction i with
    | zero =>
      intro n hn
      have hn : n = 8 := by omega
      subst hn
      refine r_iload_n dX8_leftOf_5 rfl ?_
      first | refine r_if_lt_p (tgt := 68) dX8_leftOf_6 (by decide) (by omega) (fun h6 => ?_) (fun h6 => by exfalso; omega) | refine r_if_lt_n (tgt := 68) dX8_leftOf_6 (by decide) (by omega) ?_ | refine r_if_lt (tgt := 68) dX8_leftOf_6 (by decide) (fun h6 => ?_) (fun h6 => by exfalso; omega)
      refine r_iload_n dX8_leftOf_68 rfl ?_
      refine r_iret rfl (by first | rfl | exact bI_nar _) dX8_leftOf_69 ?_
      exact hq
    | succ i ih =>
      intro n hn
      have b1 := hz i (by omega)
      have b2 := hz (8 + i) (by omega)
      have nx : ∀ v, v = pI (loF (zLP (A 1 0) (fun g => A 1 (21 + g)) (A 10) w) i (n + 1)) → mW G zX8_leftOf d 61 [some (.ref m), some (.int (nI w)), some (.int (pI (loF (zLP (A 1 0) (fun g => A 1 (21 + g)) (A 10) w) (i + 1) n))), some (.int (nI i))] [.int v] M t u Q := by
        intro v hv
        subst hv
        refine r_istore_n dX8_leftOf_61 (by decide) ?_
        simp only [mst1, mclr]
        refine r_iinc dX8_leftOf_62 rfl (nI_m1 i) (by decide) ?_
        simp only [mst1, mclr]
        refine r_goto (tgt := 5) dX8_leftOf_65 (by decide) ?_
        exact ih (n + 1) (by omega)
      have no : zLP (A 1 0) (fun g => A 1 (21 + g)) (A 10) w i = false → mW G zX8_leftOf d 60 [some (.ref m), some (.int (nI w)), some (.int (pI (loF (zLP (A 1 0) (fun g => A 1 (21 + g)) (A 10) w) (i + 1) n))), some (.int (nI i))] [] M t u Q := by
        intro hx
        refine r_iload_n dX8_leftOf_60 rfl ?_
        refine nx _ ?_
        show _ = pI (if _ then _ else _)
        rw [if_neg (by rw [hx]; decide)]
      rw [show pI (i + 1) = nI i from rfl]
      refine r_iload_n dX8_leftOf_5 rfl ?_
      refine r_if_lt_n (tgt := 68) dX8_leftOf_6 (by decide) (by omega) ?_
      refine r_iload_n dX8_leftOf_9 rfl ?_
      first | refine r_aload_n dX8_leftOf_10 rfl ?_ | refine r_aload_nq dX8_leftOf_10 rfl ?_ | refine r_aload_nN dX8_leftOf_10 rfl ?_
      refine r_getf f_X8_9_7 (by first | exact MAt.o (by assumption) | exact MAt.a1 (by assumption) | exact MAt.a2 (by assumption) | exact MAt.a3 (by assumption) | exact MAt.a4 (by assumption) | exact MAt.a5 (by assumption) | exact MAt.a6 (by assumption) | exact MAt.a7 (by assumption) | exact MAt.a8 (by assumption) | exact MAt.a9 (by assumption) | exact MAt.a10 (by assumption) | exact MAt.a11 (by assumption) | exact MAt.a12 (by assumption) | exact MAt.a13 (by assumption) | exact MAt.a14 (by assumption) | exact MAt.a15 (by assumption) | exact MAt.a16 (by assumption)) (by rfl) dX8_leftOf_11 ?_
      refine r_iconst (v := nI 0) dX8_leftOf_14 (by decide) ?_
      refine r_iald_n (by first | exact MAt.o (by assumption) | exact MAt.a1 (by assumption) | exact MAt.a2 (by assumption) | exact MAt.a3 (by assumption) | exact MAt.a4 (by assumption) | exact MAt.a5 (by assumption) | exact MAt.a6 (by assumption) | exact MAt.a7 (by assumption) | exact MAt.a8 (by assumption) | exact MAt.a9 (by assumption) | exact MAt.a10 (by assumption) | exact MAt.a11 (by assumption) | exact MAt.a12 (by assumption) | exact MAt.a13 (by assumption) | exact MAt.a14 (by assumption) | exact MAt.a15 (by assumption) | exact MAt.a16 (by assumption)) (by rfl) (by omega) (by omega) dX8_leftOf_15 ?_
      first | refine r_icmp_ge_n (tgt := 60) dX8_leftOf_16 (by decide) (by omega) (by omega) (fun h16 => ?_) (fun h16 => ?_) | refine r_icmp_ge (tgt := 60) dX8_leftOf_16 (by decide) (fun h16 => ?_) (fun h16 => ?_)
      · exact no (decide_eq_false (fun hh => by omega))
      have b3 := hk i (by omega)
      first | refine r_aload_n dX8_leftOf_19 rfl ?_ | refine r_aload_nq dX8_leftOf_19 rfl ?_ | refine r_aload_nN dX8_leftOf_19 rfl ?_
      refine r_getf f_X8_9_7 (by first | exact MAt.o (by assumption) | exact MAt.a1 (by assumption) | exact MAt.a2 (by assumption) | exact MAt.a3 (by assumption) | exact MAt.a4 (by assumption) | exact MAt.a5 (by assumption) | exact MAt.a6 (by assumption) | exact MAt.a7 (by assumption) | exact MAt.a8 (by assumption) | exact MAt.a9 (by assumption) | exact MAt.a10 (by assumption) | exact MAt.a11 (by assumption) | exact MAt.a12 (by assumption) | exact MAt.a13 (by assumption) | exact MAt.a14 (by assumption) | exact MAt.a15 (by assumption) | exact MAt.a16 (by assumption)) (by rfl) dX8_leftOf_20 ?_
      refine r_bipush (v := nI 21) dX8_leftOf_23 (by decide) ?_
      refine r_iload_n dX8_leftOf_25 rfl ?_
      first | refine r_iadd_n dX8_leftOf_26 ?_ | refine r_iadd dX8_leftOf_26 ?_
      refine r_iald_n (by first | exact MAt.o (by assumption) | exact MAt.a1 (by assumption) | exact MAt.a2 (by assumption) | exact MAt.a3 (by assumption) | exact MAt.a4 (by assumption) | exact MAt.a5 (by assumption) | exact MAt.a6 (by assumption) | exact MAt.a7 (by assumption) | exact MAt.a8 (by assumption) | exact MAt.a9 (by assumption) | exact MAt.a10 (by assumption) | exact MAt.a11 (by assumption) | exact MAt.a12 (by assumption) | exact MAt.a13 (by assumption) | exact MAt.a14 (by assumption) | exact MAt.a15 (by assumption) | exact MAt.a16 (by assumption)) (by rfl) (by omega) (by omega) dX8_leftOf_27 ?_
      first | refine r_if_ne_b (tgt := 60) dX8_leftOf_28 (by decide) (fun h28 => ?_) (fun h28 => ?_) | refine r_if_ne_n (tgt := 60) dX8_leftOf_28 (by decide) (by omega) (fun h28 => ?_) (fun h28 => ?_) | refine r_if_ne (tgt := 60) dX8_leftOf_28 (by decide) (fun h28 => ?_) (fun h28 => ?_)
      · exact no (decide_eq_false (fun hh => by have := hh.2.1; simp only at this; omega))
      first | refine r_aload_n dX8_leftOf_31 rfl ?_ | refine r_aload_nq dX8_leftOf_31 rfl ?_ | refine r_aload_nN dX8_leftOf_31 rfl ?_
      refine r_getf f_X8_37_7 (by first | exact MAt.o (by assumption) | exact MAt.a1 (by assumption) | exact MAt.a2 (by assumption) | exact MAt.a3 (by assumption) | exact MAt.a4 (by assumption) | exact MAt.a5 (by assumption) | exact MAt.a6 (by assumption) | exact MAt.a7 (by assumption) | exact MAt.a8 (by assumption) | exact MAt.a9 (by assumption) | exact MAt.a10 (by assumption) | exact MAt.a11 (by assumption) | exact MAt.a12 (by assumption) | exact MAt.a13 (by assumption) | exact MAt.a14 (by assumption) | exact MAt.a15 (by assumption) | exact MAt.a16 (by assumption)) (by rfl) dX8_leftOf_32 ?_
      refine r_iconst (v := nI 0) dX8_leftOf_35 (by decide) ?_
      refine r_iload_n dX8_leftOf_36 rfl ?_
      first | refine r_iadd_n dX8_leftOf_37 ?_ | refine r_iadd dX8_leftOf_37 ?_
      rw [Nat.zero_add]
      refine r_iald_n (by first | exact MAt.o (by assumption) | exact MAt.a1 (by assumption) | exact MAt.a2 (by assumption) | exact MAt.a3 (by assumption) | exact MAt.a4 (by assumption) | exact MAt.a5 (by assumption) | exact MAt.a6 (by assumption) | exact MAt.a7 (by assumption) | exact MAt.a8 (by assumption) | exact MAt.a9 (by assumption) | exact MAt.a10 (by assumption) | exact MAt.a11 (by assumption) | exact MAt.a12 (by assumption) | exact MAt.a13 (by assumption) | exact MAt.a14 (by assumption) | exact MAt.a15 (by assumption) | exact MAt.a16 (by assumption)) (by rfl) (by omega) (by omega) dX8_leftOf_38 ?_
      rw [sE_n (by omega)]
      refine r_iconst (v := nI 1) dX8_leftOf_39 (by decide) ?_
      first | refine r_icmp_ne_n (tgt := 60) dX8_leftOf_40 (by decide) (by omega) (by omega) (fun h40 => ?_) (fun h40 => ?_) | refine r_icmp_ne_pn (tgt := 60) dX8_leftOf_40 (by decide) (by omega) (by omega) (fun h40 => ?_) (fun h40 => ?_) | refine r_icmp_ne_pm (tgt := 60) dX8_leftOf_40 (by decide) (by omega) (fun h40 => ?_) (fun h40 => ?_) | refine r_icmp_ne (tgt := 60) dX8_leftOf_40 (by decide) (fun h40 => ?_) (fun h40 => ?_)
      · exact no (decide_eq_false (fun hh => by have := hh.2.2.1; omega))
      first | refine r_aload_n dX8_leftOf_43 rfl ?_ | refine r_aload_nq dX8_leftOf_43 rfl ?_ | refine r_aload_nN dX8_leftOf_43 rfl ?_
      refine r_getf f_X8_37_7 (by first | exact MAt.o (by assumption) | exact MAt.a1 (by assumption) | exact MAt.a2 (by assumption) | exact MAt.a3 (by assumption) | exact MAt.a4 (by assumption) | exact MAt.a5 (by assumption) | exact MAt.a6 (by assumption) | exact MAt.a7 (by assumption) | exact MAt.a8 (by assumption) | exact MAt.a9 (by assumption) | exact MAt.a10 (by assumption) | exact MAt.a11 (by assumption) | exact MAt.a12 (by assumption) | exact MAt.a13 (by assumption) | exact MAt.a14 (by assumption) | exact MAt.a15 (by assumption) | exact MAt.a16 (by assumption)) (by rfl) dX8_leftOf_44 ?_
      refine r_bipush (v := nI 8) dX8_leftOf_47 (by decide) ?_
      refine r_iload_n dX8_leftOf_49 rfl ?_
      first | refine r_iadd_n dX8_leftOf_50 ?_ | refine r_iadd dX8_leftOf_50 ?_
      refine r_iald_n (by first | exact MAt.o (by assumption) | exact MAt.a1 (by assumption) | exact MAt.a2 (by assumption) | exact MAt.a3 (by assumption) | exact MAt.a4 (by assumption) | exact MAt.a5 (by assumption) | exact MAt.a6 (by assumption) | exact MAt.a7 (by assumption) | exact MAt.a8 (by assumption) | exact MAt.a9 (by assumption) | exact MAt.a10 (by assumption) | exact MAt.a11 (by assumption) | exact MAt.a12 (by assumption) | exact MAt.a13 (by assumption) | exact MAt.a14 (by assumption) | exact MAt.a15 (by assumption) | exact MAt.a16 (by assumption)) (by rfl) (by omega) (by omega) dX8_leftOf_51 ?_
      rw [sE_n (by omega)]
      refine r_iload_n dX8_leftOf_52 rfl ?_
      first | refine r_icmp_ne_n (tgt := 60) dX8_leftOf_53 (by decide) (by omega) (by omega) (fun h53 => ?_) (fun h53 => ?_) | refine r_icmp_ne_pn (tgt := 60) dX8_leftOf_53 (by decide) (by omega) (by omega) (fun h53 => ?_) (fun h53 => ?_) | refine r_icmp_ne_pm (tgt := 60) dX8_leftOf_53 (by decide) (by omega) (fun h53 => ?_) (fun h53 => ?_) | refine r_icmp_ne (tgt := 60) dX8_leftOf_53 (by decide) (fun h53 => ?_) (fun h53 => ?_)
      · exact no (decide_eq_false (fun hh => by have := hh.2.2.2; omega))
      refine r_iload_n dX8_leftOf_56 rfl ?_
      refine r_goto (tgt := 61) dX8_leftOf_57 (by decide) ?_
      refine nx _ ?_
      show _ = pI (if _ then _ else _)
      have hp : zLP (A 1 0) (fun g => A 1 (21 + g)) (A 10) w i = true := decide_eq_true ⟨by omega, h28, h40, h53⟩
      rw [if_pos hp]; rfl
  refine r_iconst (v := -1) dX8_leftOf_0 (by decide) ?_
  refine r_istore_n dX8_leftOf_1 (by decide) ?_
  simp only [mst1, mclr]
  refine r_bipush (v := nI 7) dX8_leftOf_2 (by decide) ?_
  refine r_istore_n dX8_leftOf_4 (by decide) ?_
  simp only [mst1, mclr]
  exact loop 8 0 rfl
theorem m_ended (h : MAt B M m F D A) (hb : mGb G ≤ m) (k : Nat) (hd1 : 0 < F 18) (hd2 : F 18 ≤ 30) (hm : A 1 0 ≤ 8) (hk : ∀ g, g < A 1 0 → A 1 (21 + g) < 3) (hz : ∀ j, j < 31 → A 10 j ≤ 30)
   (hE : 0 < zLeft (A 1 0) (fun g => A 1 (21 + g)) (A 10) (F 18) → ∀ M, MAt B M m (fU (fU (fU F 19 7) 20 (k + 1)) 21 (zLeft (A 1 0) (fun g => A 1 (21 + g)) (A 10) (F 18))) D A → Q (.inl (some (.int (bI false)))) M t u)
   (hN : zLeft (A 1 0) (fun g => A 1 (21 + g)) (A 10) (F 18) = 0 → ∀ M A', MAt B M m (fU F 18 (F 18 - 1)) D A' → (∀ i, i ≠ 10 → A' i = A i) → (∀ j, j < 31 → A' 10 j = zEnd (A 10) (F 18) j) → Q (.inl (some (.int (bI true)))) M t u) : mMet G (d + 1) zX8_ended [.ref m, .int (nI k)] M t u Q := by
  refine m_intro (by decide +kernel) ⟨Nat.le_of_ble_eq_true rfl, Nat.le_of_ble_eq_true rfl⟩ ?_
  show mW G _ _ 0 [some (.ref m), some (.int (nI k)), none, none] [] _ _ _ _
  have hle : zLeft (A 1 0) (fun g => A 1 (21 + g)) (A 10) (F 18) ≤ 8 := by have := loF_le (zLP (A 1 0) (fun g => A 1 (21 + g)) (A 10) (F 18)) 8 0; unfold zLeft; omega
  have loop2 : ∀ n i M A' v2, i + n = 5 → MAt B M m F D A' → (∀ i, i ≠ 10 → A' i = A i) → (∀ j, j < 31 → A' 10 j = if j < 8 ∨ (16 ≤ j ∧ j < 16 + i) then zEnd (A 10) (F 18) j else A 10 j) → zLeft (A 1 0) (fun g => A 1 (21 + g)) (A 10) (F 18) = 0 → mW G zX8_ended (d + 1) 74 [some (.ref m), some (.int (nI k)), some (.int v2), some (.int (nI i))] [] M t u Q := by
    intro n
    induction n with
    | zero =>
      intro i M A' v2 hi hM ha hj0 hl
      refine r_iload_n dX8_ended_74 rfl ?_
      refine r_iconst (v := nI 5) dX8_ended_75 (by decide) ?_
      first | refine r_icmp_ge_n (tgt := 123) dX8_ended_76 (by decide) (by omega) (by omega) (fun h76 => ?_) (fun h76 => by exfalso; omega) | refine r_icmp_ge (tgt := 123) dX8_ended_76 (by decide) (fun h76 => ?_) (fun h76 => by exfalso; omega)
      first | refine r_aload_n dX8_ended_123 rfl ?_ | refine r_aload_nq dX8_ended_123 rfl ?_ | refine r_aload_nN dX8_ended_123 rfl ?_
      refine r_dup dX8_ended_124 (by rfl) ?_
      refine r_getf f_X8_173_7 (by first | exact MAt.o (by assumption) | exact MAt.a1 (by assumption) | exact MAt.a2 (by assumption) | exact MAt.a3 (by assumption) | exact MAt.a4 (by assumption) | exact MAt.a5 (by assumption) | exact MAt.a6 (by assumption) | exact MAt.a7 (by assumption) | exact MAt.a8 (by assumption) | exact MAt.a9 (by assumption) | exact MAt.a10 (by assumption) | exact MAt.a11 (by assumption) | exact MAt.a12 (by assumption) | exact MAt.a13 (by assumption) | exact MAt.a14 (by assumption) | exact MAt.a15 (by assumption) | exact MAt.a16 (by assumption)) (by rfl) dX8_ended_125 ?_
      refine r_iconst (v := nI 1) dX8_ended_128 (by decide) ?_
      first | refine r_isub_n dX8_ended_129 (by omega) ?_ | refine r_isub dX8_ended_129 ?_
      refine r_putf f_X8_173_7 ft_7_18 (by first | exact MAt.o (by assumption) | exact MAt.a1 (by assumption) | exact MAt.a2 (by assumption) | exact MAt.a3 (by assumption) | exact MAt.a4 (by assumption) | exact MAt.a5 (by assumption) | exact MAt.a6 (by assumption) | exact MAt.a7 (by assumption) | exact MAt.a8 (by assumption) | exact MAt.a9 (by assumption) | exact MAt.a10 (by assumption) | exact MAt.a11 (by assumption) | exact MAt.a12 (by assumption) | exact MAt.a13 (by assumption) | exact MAt.a14 (by assumption) | exact MAt.a15 (by assumption) | exact MAt.a16 (by assumption)) (by omega) (by first | rfl | exact bI_nar _) (by first | rfl | exact bI_fit _) dX8_ended_130 ?_
      refine MAt.p18 (by assumption) (fun M hM => ?_)
      refine r_iconst (v := nI 1) dX8_ended_133 (by decide) ?_
      refine r_iret rfl (by first | rfl | exact bI_nar _) dX8_ended_134 ?_
      refine hN hl _ _ hM ha (fun j hj => ?_)
      rw [hj0 j hj]
      split
      · rfl
      · rename_i hh
        unfold zEnd
        rw [if_neg (by omega), if_neg (by omega)]
    | succ n ih =>
      intro i M A' v2 hi hM ha hj0 hl
      have b1 := hj0 (26 + i) (by omega)
      rw [if_neg (by omega)] at b1
      have b2 := hj0 (16 + i) (by omega)
      rw [if_neg (by omega)] at b2
      have z1 := hz (26 + i) (by omega)
      have z2 := hz (16 + i) (by omega)
      have nx : ∀ M x, x = zEnd (A 10) (F 18) (16 + i) → MAt B M m F D (fA A' 10 (fU (A' 10) (16 + i) x)) → mW G zX8_ended (d + 1) 117 [some (.ref m), some (.int (nI k)), some (.int v2), some (.int (nI i))] [] M t u Q := by
        intro M x hx hM
        first | refine r_iinc_n 1 dX8_ended_117 rfl (by decide) ?_ | refine r_iinc dX8_ended_117 rfl rfl (by decide) ?_
        simp only [mst1, mclr]
        refine r_goto (tgt := 74) dX8_ended_120 (by decide) ?_
        refine ih (i + 1) M _ v2 (by omega) hM (fun q hq => by rw [fA_ne hq]; exact ha q hq) (fun j hj => ?_) hl
        rw [fA_eq]
        by_cases hji : j = 16 + i
        · subst hji; rw [fU_eq, if_pos (by omega)]; exact hx
        · rw [fU_ne hji, hj0 j hj]
          by_cases hh : j < 8 ∨ (16 ≤ j ∧ j < 16 + i)
          · rw [if_pos hh, if_pos (by omega)]
          · rw [if_neg hh, if_neg (by omega)]
      refine r_iload_n dX8_ended_74 rfl ?_
      refine r_iconst (v := nI 5) dX8_ended_75 (by decide) ?_
      first | refine r_icmp_ge_n (tgt := 123) dX8_ended_76 (by decide) (by omega) (by omega) (fun h76 => by exfalso; omega) (fun h76 => ?_) | refine r_icmp_ge (tgt := 123) dX8_ended_76 (by decide) (fun h76 => by exfalso; omega) (fun h76 => ?_)
      first | refine r_aload_n dX8_ended_79 rfl ?_ | refine r_aload_nq dX8_ended_79 rfl ?_ | refine r_aload_nN dX8_ended_79 rfl ?_
      refine r_getf f_X8_37_7 (by first | exact MAt.o (by assumption) | exact MAt.a1 (by assumption) | exact MAt.a2 (by assumption) | exact MAt.a3 (by assumption) | exact MAt.a4 (by assumption) | exact MAt.a5 (by assumption) | exact MAt.a6 (by assumption) | exact MAt.a7 (by assumption) | exact MAt.a8 (by assumption) | exact MAt.a9 (by assumption) | exact MAt.a10 (by assumption) | exact MAt.a11 (by assumption) | exact MAt.a12 (by assumption) | exact MAt.a13 (by assumption) | exact MAt.a14 (by assumption) | exact MAt.a15 (by assumption) | exact MAt.a16 (by assumption)) (by rfl) dX8_ended_80 ?_
      refine r_bipush (v := nI 16) dX8_ended_83 (by decide) ?_
      refine r_iload_n dX8_ended_85 rfl ?_
      first | refine r_iadd_n dX8_ended_86 ?_ | refine r_iadd dX8_ended_86 ?_
      first | refine r_aload_n dX8_ended_87 rfl ?_ | refine r_aload_nq dX8_ended_87 rfl ?_ | refine r_aload_nN dX8_ended_87 rfl ?_
      refine r_getf f_X8_37_7 (by first | exact MAt.o (by assumption) | exact MAt.a1 (by assumption) | exact MAt.a2 (by assumption) | exact MAt.a3 (by assumption) | exact MAt.a4 (by assumption) | exact MAt.a5 (by assumption) | exact MAt.a6 (by assumption) | exact MAt.a7 (by assumption) | exact MAt.a8 (by assumption) | exact MAt.a9 (by assumption) | exact MAt.a10 (by assumption) | exact MAt.a11 (by assumption) | exact MAt.a12 (by assumption) | exact MAt.a13 (by assumption) | exact MAt.a14 (by assumption) | exact MAt.a15 (by assumption) | exact MAt.a16 (by assumption)) (by rfl) dX8_ended_88 ?_
      refine r_bipush (v := nI 26) dX8_ended_91 (by decide) ?_
      refine r_iload_n dX8_ended_93 rfl ?_
      first | refine r_iadd_n dX8_ended_94 ?_ | refine r_iadd dX8_ended_94 ?_
      refine r_iald_n (by first | exact MAt.o (by assumption) | exact MAt.a1 (by assumption) | exact MAt.a2 (by assumption) | exact MAt.a3 (by assumption) | exact MAt.a4 (by assumption) | exact MAt.a5 (by assumption) | exact MAt.a6 (by assumption) | exact MAt.a7 (by assumption) | exact MAt.a8 (by assumption) | exact MAt.a9 (by assumption) | exact MAt.a10 (by assumption) | exact MAt.a11 (by assumption) | exact MAt.a12 (by assumption) | exact MAt.a13 (by assumption) | exact MAt.a14 (by assumption) | exact MAt.a15 (by assumption) | exact MAt.a16 (by assumption)) (by rfl) (by omega) (by omega) dX8_ended_95 ?_
      rw [sE_n (by omega)]
      first | refine r_aload_n dX8_ended_96 rfl ?_ | refine r_aload_nq dX8_ended_96 rfl ?_ | refine r_aload_nN dX8_ended_96 rfl ?_
      refine r_getf f_X8_173_7 (by first | exact MAt.o (by assumption) | exact MAt.a1 (by assumption) | exact MAt.a2 (by assumption) | exact MAt.a3 (by assumption) | exact MAt.a4 (by assumption) | exact MAt.a5 (by assumption) | exact MAt.a6 (by assumption) | exact MAt.a7 (by assumption) | exact MAt.a8 (by assumption) | exact MAt.a9 (by assumption) | exact MAt.a10 (by assumption) | exact MAt.a11 (by assumption) | exact MAt.a12 (by assumption) | exact MAt.a13 (by assumption) | exact MAt.a14 (by assumption) | exact MAt.a15 (by assumption) | exact MAt.a16 (by assumption)) (by rfl) dX8_ended_97 ?_
      first | refine r_icmp_ne_n (tgt := 107) dX8_ended_100 (by decide) (by omega) (by omega) (fun h100 => ?_) (fun h100 => ?_) | refine r_icmp_ne_pn (tgt := 107) dX8_ended_100 (by decide) (by omega) (by omega) (fun h100 => ?_) (fun h100 => ?_) | refine r_icmp_ne_pm (tgt := 107) dX8_ended_100 (by decide) (by omega) (fun h100 => ?_) (fun h100 => ?_) | refine r_icmp_ne (tgt := 107) dX8_ended_100 (by decide) (fun h100 => ?_) (fun h100 => ?_)
      · first | refine r_aload_n dX8_ended_107 rfl ?_ | refine r_aload_nq dX8_ended_107 rfl ?_ | refine r_aload_nN dX8_ended_107 rfl ?_
        refine r_getf f_X8_37_7 (by first | exact MAt.o (by assumption) | exact MAt.a1 (by assumption) | exact MAt.a2 (by assumption) | exact MAt.a3 (by assumption) | exact MAt.a4 (by assumption) | exact MAt.a5 (by assumption) | exact MAt.a6 (by assumption) | exact MAt.a7 (by assumption) | exact MAt.a8 (by assumption) | exact MAt.a9 (by assumption) | exact MAt.a10 (by assumption) | exact MAt.a11 (by assumption) | exact MAt.a12 (by assumption) | exact MAt.a13 (by assumption) | exact MAt.a14 (by assumption) | exact MAt.a15 (by assumption) | exact MAt.a16 (by assumption)) (by rfl) dX8_ended_108 ?_
        refine r_bipush (v := nI 16) dX8_ended_111 (by decide) ?_
        refine r_iload_n dX8_ended_113 rfl ?_
        first | refine r_iadd_n dX8_ended_114 ?_ | refine r_iadd dX8_ended_114 ?_
        refine r_iald_n (by first | exact MAt.o (by assumption) | exact MAt.a1 (by assumption) | exact MAt.a2 (by assumption) | exact MAt.a3 (by assumption) | exact MAt.a4 (by assumption) | exact MAt.a5 (by assumption) | exact MAt.a6 (by assumption) | exact MAt.a7 (by assumption) | exact MAt.a8 (by assumption) | exact MAt.a9 (by assumption) | exact MAt.a10 (by assumption) | exact MAt.a11 (by assumption) | exact MAt.a12 (by assumption) | exact MAt.a13 (by assumption) | exact MAt.a14 (by assumption) | exact MAt.a15 (by assumption) | exact MAt.a16 (by assumption)) (by rfl) (by omega) (by omega) dX8_ended_115 ?_
        rw [sE_p (by omega)]
        refine r_iast_n (by first | exact MAt.o (by assumption) | exact MAt.a1 (by assumption) | exact MAt.a2 (by assumption) | exact MAt.a3 (by assumption) | exact MAt.a4 (by assumption) | exact MAt.a5 (by assumption) | exact MAt.a6 (by assumption) | exact MAt.a7 (by assumption) | exact MAt.a8 (by assumption) | exact MAt.a9 (by assumption) | exact MAt.a10 (by assumption) | exact MAt.a11 (by assumption) | exact MAt.a12 (by assumption) | exact MAt.a13 (by assumption) | exact MAt.a14 (by assumption) | exact MAt.a15 (by assumption) | exact MAt.a16 (by assumption)) (by rfl) (by omega) (by omega) (by omega) dX8_ended_116 ?_
        refine MAt.g10 (A' 10 (16 + i)) (by assumption) (by first | (refine Eq.trans (show _ = nI ((A' 10 (16 + i))) from rfl) (sE_n ?_).symm; omega) | (refine Eq.trans (show _ = pI ((A' 10 (16 + i))) from rfl) (sE_p ?_).symm; omega)) (fun M hM => ?_)
        refine nx _ _ ?_ hM
        rw [b2]; unfold zEnd
        rw [show 10 + (16 + i) = 26 + i by omega, if_neg (by omega), if_neg (by omega)]
      · refine r_iconst (v := -1) dX8_ended_103 (by decide) ?_
        refine r_goto (tgt := 116) dX8_ended_104 (by decide) ?_
        refine r_iast_n (by first | exact MAt.o (by assumption) | exact MAt.a1 (by assumption) | exact MAt.a2 (by assumption) | exact MAt.a3 (by assumption) | exact MAt.a4 (by assumption) | exact MAt.a5 (by assumption) | exact MAt.a6 (by assumption) | exact MAt.a7 (by assumption) | exact MAt.a8 (by assumption) | exact MAt.a9 (by assumption) | exact MAt.a10 (by assumption) | exact MAt.a11 (by assumption) | exact MAt.a12 (by assumption) | exact MAt.a13 (by assumption) | exact MAt.a14 (by assumption) | exact MAt.a15 (by assumption) | exact MAt.a16 (by assumption)) (by rfl) (by omega) (by omega) (by omega) dX8_ended_116 ?_
        refine MAt.g10 0 (by assumption) (by first | (refine Eq.trans (show _ = nI (0) from rfl) (sE_n ?_).symm; omega) | (refine Eq.trans (show _ = pI (0) from rfl) (sE_p ?_).symm; omega)) (fun M hM => ?_)
        refine nx _ _ ?_ hM
        unfold zEnd
        rw [show 10 + (16 + i) = 26 + i by omega, if_neg (by omega), if_pos (by omega)]
  have loop1 : ∀ n i M A' v2, i + n = 8 → MAt B M m F D A' → (∀ i, i ≠ 10 → A' i = A i) → (∀ j, j < 31 → A' 10 j = if j < i then zEnd (A 10) (F 18) j else A 10 j) → zLeft (A 1 0) (fun g => A 1 (21 + g)) (A 10) (F 18) = 0 → mW G zX8_ended (d + 1) 24 [some (.ref m), some (.int (nI k)), some (.int v2), some (.int (nI i))] [] M t u Q := by
    intro n
    induction n with
    | zero =>
      intro i M A' v2 hi hM ha hj0 hl
      refine r_iload_n dX8_ended_24 rfl ?_
      refine r_bipush (v := nI 8) dX8_ended_25 (by decide) ?_
      first | refine r_icmp_ge_n (tgt := 72) dX8_ended_27 (by decide) (by omega) (by omega) (fun h27 => ?_) (fun h27 => by exfalso; omega) | refine r_icmp_ge (tgt := 72) dX8_ended_27 (by decide) (fun h27 => ?_) (fun h27 => by exfalso; omega)
      refine r_iconst (v := nI 0) dX8_ended_72 (by decide) ?_
      refine r_istore_n dX8_ended_73 (by decide) ?_
      simp only [mst1, mclr]
      refine loop2 5 0 M A' v2 (by omega) hM ha (fun j hj => ?_) hl
      rw [hj0 j hj]
      by_cases hh : j < i
      · rw [if_pos hh, if_pos (by omega)]
      · rw [if_neg hh, if_neg (by omega)]
    | succ n ih =>
      intro i M A' v2 hi hM ha hj0 hl
      have b1 := hj0 (8 + i) (by omega)
      rw [if_neg (by omega)] at b1
      have b2 := hj0 i (by omega)
      rw [if_neg (by omega)] at b2
      have z1 := hz (8 + i) (by omega)
      have z2 := hz i (by omega)
      have nx : ∀ M x, x = zEnd (A 10) (F 18) i → MAt B M m F D (fA A' 10 (fU (A' 10) i x)) → mW G zX8_ended (d + 1) 66 [some (.ref m), some (.int (nI k)), some (.int v2), some (.int (nI i))] [] M t u Q := by
        intro M x hx hM
        first | refine r_iinc_n 1 dX8_ended_66 rfl (by decide) ?_ | refine r_iinc dX8_ended_66 rfl rfl (by decide) ?_
        simp only [mst1, mclr]
        refine r_goto (tgt := 24) dX8_ended_69 (by decide) ?_
        refine ih (i + 1) M _ v2 (by omega) hM (fun q hq => by rw [fA_ne hq]; exact ha q hq) (fun j hj => ?_) hl
        rw [fA_eq]
        by_cases hji : j = i
        · subst hji; rw [fU_eq, if_pos (by omega)]; exact hx
        · rw [fU_ne hji, hj0 j hj]
          by_cases hh : j < i
          · rw [if_pos hh, if_pos (by omega)]
          · rw [if_neg hh, if_neg (by omega)]
      refine r_iload_n dX8_ended_24 rfl ?_
      refine r_bipush (v := nI 8) dX8_ended_25 (by decide) ?_
      first | refine r_icmp_ge_n (tgt := 72) dX8_ended_27 (by decide) (by omega) (by omega) (fun h27 => by exfalso; omega) (fun h27 => ?_) | refine r_icmp_ge (tgt := 72) dX8_ended_27 (by decide) (fun h27 => by exfalso; omega) (fun h27 => ?_)
      first | refine r_aload_n dX8_ended_30 rfl ?_ | refine r_aload_nq dX8_ended_30 rfl ?_ | refine r_aload_nN dX8_ended_30 rfl ?_
      refine r_getf f_X8_37_7 (by first | exact MAt.o (by assumption) | exact MAt.a1 (by assumption) | exact MAt.a2 (by assumption) | exact MAt.a3 (by assumption) | exact MAt.a4 (by assumption) | exact MAt.a5 (by assumption) | exact MAt.a6 (by assumption) | exact MAt.a7 (by assumption) | exact MAt.a8 (by assumption) | exact MAt.a9 (by assumption) | exact MAt.a10 (by assumption) | exact MAt.a11 (by assumption) | exact MAt.a12 (by assumption) | exact MAt.a13 (by assumption) | exact MAt.a14 (by assumption) | exact MAt.a15 (by assumption) | exact MAt.a16 (by assumption)) (by rfl) dX8_ended_31 ?_
      refine r_iconst (v := nI 0) dX8_ended_34 (by decide) ?_
      refine r_iload_n dX8_ended_35 rfl ?_
      first | refine r_iadd_n dX8_ended_36 ?_ | refine r_iadd dX8_ended_36 ?_
      rw [Nat.zero_add]
      first | refine r_aload_n dX8_ended_37 rfl ?_ | refine r_aload_nq dX8_ended_37 rfl ?_ | refine r_aload_nN dX8_ended_37 rfl ?_
      refine r_getf f_X8_37_7 (by first | exact MAt.o (by assumption) | exact MAt.a1 (by assumption) | exact MAt.a2 (by assumption) | exact MAt.a3 (by assumption) | exact MAt.a4 (by assumption) | exact MAt.a5 (by assumption) | exact MAt.a6 (by assumption) | exact MAt.a7 (by assumption) | exact MAt.a8 (by assumption) | exact MAt.a9 (by assumption) | exact MAt.a10 (by assumption) | exact MAt.a11 (by assumption) | exact MAt.a12 (by assumption) | exact MAt.a13 (by assumption) | exact MAt.a14 (by assumption) | exact MAt.a15 (by assumption) | exact MAt.a16 (by assumption)) (by rfl) dX8_ended_38 ?_
      refine r_bipush (v := nI 8) dX8_ended_41 (by decide) ?_
      refine r_iload_n dX8_ended_43 rfl ?_
      first | refine r_iadd_n dX8_ended_44 ?_ | refine r_iadd dX8_ended_44 ?_
      refine r_iald_n (by first | exact MAt.o (by assumption) | exact MAt.a1 (by assumption) | exact MAt.a2 (by assumption) | exact MAt.a3 (by assumption) | exact MAt.a4 (by assumption) | exact MAt.a5 (by assumption) | exact MAt.a6 (by assumption) | exact MAt.a7 (by assumption) | exact MAt.a8 (by assumption) | exact MAt.a9 (by assumption) | exact MAt.a10 (by assumption) | exact MAt.a11 (by assumption) | exact MAt.a12 (by assumption) | exact MAt.a13 (by assumption) | exact MAt.a14 (by assumption) | exact MAt.a15 (by assumption) | exact MAt.a16 (by assumption)) (by rfl) (by omega) (by omega) dX8_ended_45 ?_
      rw [sE_n (by omega)]
      first | refine r_aload_n dX8_ended_46 rfl ?_ | refine r_aload_nq dX8_ended_46 rfl ?_ | refine r_aload_nN dX8_ended_46 rfl ?_
      refine r_getf f_X8_173_7 (by first | exact MAt.o (by assumption) | exact MAt.a1 (by assumption) | exact MAt.a2 (by assumption) | exact MAt.a3 (by assumption) | exact MAt.a4 (by assumption) | exact MAt.a5 (by assumption) | exact MAt.a6 (by assumption) | exact MAt.a7 (by assumption) | exact MAt.a8 (by assumption) | exact MAt.a9 (by assumption) | exact MAt.a10 (by assumption) | exact MAt.a11 (by assumption) | exact MAt.a12 (by assumption) | exact MAt.a13 (by assumption) | exact MAt.a14 (by assumption) | exact MAt.a15 (by assumption) | exact MAt.a16 (by assumption)) (by rfl) dX8_ended_47 ?_
      first | refine r_icmp_ne_n (tgt := 57) dX8_ended_50 (by decide) (by omega) (by omega) (fun h50 => ?_) (fun h50 => ?_) | refine r_icmp_ne_pn (tgt := 57) dX8_ended_50 (by decide) (by omega) (by omega) (fun h50 => ?_) (fun h50 => ?_) | refine r_icmp_ne_pm (tgt := 57) dX8_ended_50 (by decide) (by omega) (fun h50 => ?_) (fun h50 => ?_) | refine r_icmp_ne (tgt := 57) dX8_ended_50 (by decide) (fun h50 => ?_) (fun h50 => ?_)
      · first | refine r_aload_n dX8_ended_57 rfl ?_ | refine r_aload_nq dX8_ended_57 rfl ?_ | refine r_aload_nN dX8_ended_57 rfl ?_
        refine r_getf f_X8_37_7 (by first | exact MAt.o (by assumption) | exact MAt.a1 (by assumption) | exact MAt.a2 (by assumption) | exact MAt.a3 (by assumption) | exact MAt.a4 (by assumption) | exact MAt.a5 (by assumption) | exact MAt.a6 (by assumption) | exact MAt.a7 (by assumption) | exact MAt.a8 (by assumption) | exact MAt.a9 (by assumption) | exact MAt.a10 (by assumption) | exact MAt.a11 (by assumption) | exact MAt.a12 (by assumption) | exact MAt.a13 (by assumption) | exact MAt.a14 (by assumption) | exact MAt.a15 (by assumption) | exact MAt.a16 (by assumption)) (by rfl) dX8_ended_58 ?_
        refine r_iconst (v := nI 0) dX8_ended_61 (by decide) ?_
        refine r_iload_n dX8_ended_62 rfl ?_
        first | refine r_iadd_n dX8_ended_63 ?_ | refine r_iadd dX8_ended_63 ?_
        rw [Nat.zero_add]
        refine r_iald_n (by first | exact MAt.o (by assumption) | exact MAt.a1 (by assumption) | exact MAt.a2 (by assumption) | exact MAt.a3 (by assumption) | exact MAt.a4 (by assumption) | exact MAt.a5 (by assumption) | exact MAt.a6 (by assumption) | exact MAt.a7 (by assumption) | exact MAt.a8 (by assumption) | exact MAt.a9 (by assumption) | exact MAt.a10 (by assumption) | exact MAt.a11 (by assumption) | exact MAt.a12 (by assumption) | exact MAt.a13 (by assumption) | exact MAt.a14 (by assumption) | exact MAt.a15 (by assumption) | exact MAt.a16 (by assumption)) (by rfl) (by omega) (by omega) dX8_ended_64 ?_
        rw [sE_n (by omega)]
        refine r_iast_n (by first | exact MAt.o (by assumption) | exact MAt.a1 (by assumption) | exact MAt.a2 (by assumption) | exact MAt.a3 (by assumption) | exact MAt.a4 (by assumption) | exact MAt.a5 (by assumption) | exact MAt.a6 (by assumption) | exact MAt.a7 (by assumption) | exact MAt.a8 (by assumption) | exact MAt.a9 (by assumption) | exact MAt.a10 (by assumption) | exact MAt.a11 (by assumption) | exact MAt.a12 (by assumption) | exact MAt.a13 (by assumption) | exact MAt.a14 (by assumption) | exact MAt.a15 (by assumption) | exact MAt.a16 (by assumption)) (by rfl) (by omega) (by omega) (by omega) dX8_ended_65 ?_
        refine MAt.g10 (A' 10 i) (by assumption) (by first | (refine Eq.trans (show _ = nI ((A' 10 i)) from rfl) (sE_n ?_).symm; omega) | (refine Eq.trans (show _ = pI ((A' 10 i)) from rfl) (sE_p ?_).symm; omega)) (fun M hM => ?_)
        refine nx _ _ ?_ hM
        rw [b2]; unfold zEnd
        rw [if_neg (by omega), if_neg (by omega)]
      · refine r_iconst (v := nI 0) dX8_ended_53 (by decide) ?_
        refine r_goto (tgt := 65) dX8_ended_54 (by decide) ?_
        refine r_iast_n (by first | exact MAt.o (by assumption) | exact MAt.a1 (by assumption) | exact MAt.a2 (by assumption) | exact MAt.a3 (by assumption) | exact MAt.a4 (by assumption) | exact MAt.a5 (by assumption) | exact MAt.a6 (by assumption) | exact MAt.a7 (by assumption) | exact MAt.a8 (by assumption) | exact MAt.a9 (by assumption) | exact MAt.a10 (by assumption) | exact MAt.a11 (by assumption) | exact MAt.a12 (by assumption) | exact MAt.a13 (by assumption) | exact MAt.a14 (by assumption) | exact MAt.a15 (by assumption) | exact MAt.a16 (by assumption)) (by rfl) (by omega) (by omega) (by omega) dX8_ended_65 ?_
        refine MAt.g10 0 (by assumption) (by first | (refine Eq.trans (show _ = nI (0) from rfl) (sE_n ?_).symm; omega) | (refine Eq.trans (show _ = pI (0) from rfl) (sE_p ?_).symm; omega)) (fun M hM => ?_)
        refine nx _ _ ?_ hM
        unfold zEnd
        rw [if_pos (by omega)]
  first | refine r_aload_n dX8_ended_0 rfl ?_ | refine r_aload_nq dX8_ended_0 rfl ?_ | refine r_aload_nN dX8_ended_0 rfl ?_
  first | refine r_aload_n dX8_ended_1 rfl ?_ | refine r_aload_nq dX8_ended_1 rfl ?_ | refine r_aload_nN dX8_ended_1 rfl ?_
  refine r_getf f_X8_173_7 (by first | exact MAt.o (by assumption) | exact MAt.a1 (by assumption) | exact MAt.a2 (by assumption) | exact MAt.a3 (by assumption) | exact MAt.a4 (by assumption) | exact MAt.a5 (by assumption) | exact MAt.a6 (by assumption) | exact MAt.a7 (by assumption) | exact MAt.a8 (by assumption) | exact MAt.a9 (by assumption) | exact MAt.a10 (by assumption) | exact MAt.a11 (by assumption) | exact MAt.a12 (by assumption) | exact MAt.a13 (by assumption) | exact MAt.a14 (by assumption) | exact MAt.a15 (by assumption) | exact MAt.a16 (by assumption)) (by rfl) dX8_ended_2 ?_
  refine r_callV s_X8_185_v dX8_ended_5 (by first | exact MAt.o (by assumption) | exact MAt.a1 (by assumption) | exact MAt.a2 (by assumption) | exact MAt.a3 (by assumption) | exact MAt.a4 (by assumption) | exact MAt.a5 (by assumption) | exact MAt.a6 (by assumption) | exact MAt.a7 (by assumption) | exact MAt.a8 (by assumption) | exact MAt.a9 (by assumption) | exact MAt.a10 (by assumption) | exact MAt.a11 (by assumption) | exact MAt.a12 (by assumption) | exact MAt.a13 (by assumption) | exact MAt.a14 (by assumption) | exact MAt.a15 (by assumption) | exact MAt.a16 (by assumption)) (by rfl) rfl (Nat.le_of_ble_eq_true rfl) (m_leftOf h (F 18) (by omega) hm hk hz ?_)
  refine mK_r ?_
  refine r_istore_n dX8_ended_8 (by decide) ?_
  simp only [mst1, mclr]
  refine r_iload_n dX8_ended_9 rfl ?_
  first | refine r_if_lt_p (tgt := 22) dX8_ended_10 (by decide) (by omega) (fun h10 => ?_) (fun h10 => ?_) | refine r_if_lt_n (tgt := 22) dX8_ended_10 (by decide) (by omega) ?_ | refine r_if_lt (tgt := 22) dX8_ended_10 (by decide) (fun h10 => ?_) (fun h10 => ?_)
  · refine r_iconst (v := nI 0) dX8_ended_22 (by decide) ?_
    refine r_istore_n dX8_ended_23 (by decide) ?_
    simp only [mst1, mclr]
    exact loop1 8 0 M A _ (by omega) h (fun _ _ => rfl) (fun j hj => by rw [if_neg (by omega)]) h10
  · obtain ⟨g, hg⟩ : ∃ g, zLeft (A 1 0) (fun g => A 1 (21 + g)) (A 10) (F 18) = g + 1 := ⟨zLeft (A 1 0) (fun g => A 1 (21 + g)) (A 10) (F 18) - 1, by omega⟩
    rw [hg] at hE ⊢
    first | refine r_aload_n dX8_ended_13 rfl ?_ | refine r_aload_nq dX8_ended_13 rfl ?_ | refine r_aload_nN dX8_ended_13 rfl ?_
    refine r_bipush (v := nI 7) dX8_ended_14 (by decide) ?_
    refine r_iload_n dX8_ended_16 rfl ?_
    refine r_iload_n dX8_ended_17 rfl ?_
    refine r_callV s_X8_188_v dX8_ended_18 (by first | exact MAt.o (by assumption) | exact MAt.a1 (by assumption) | exact MAt.a2 (by assumption) | exact MAt.a3 (by assumption) | exact MAt.a4 (by assumption) | exact MAt.a5 (by assumption) | exact MAt.a6 (by assumption) | exact MAt.a7 (by assumption) | exact MAt.a8 (by assumption) | exact MAt.a9 (by assumption) | exact MAt.a10 (by assumption) | exact MAt.a11 (by assumption) | exact MAt.a12 (by assumption) | exact MAt.a13 (by assumption) | exact MAt.a14 (by assumption) | exact MAt.a15 (by assumption) | exact MAt.a16 (by assumption)) (by rfl) rfl (Nat.le_of_ble_eq_true rfl) (m_errs h hb 7 (k + 1) (g + 1) (fun M hM => ?_))
    refine mK_r ?_
    refine r_iret rfl (by first | rfl | exact bI_nar _) dX8_ended_21 ?_
    exact hE (by omega) _ hM
end WALK
