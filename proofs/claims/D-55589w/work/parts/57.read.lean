/-! ===== the model reads ===== -/
/-- the sort of a sign, as a successor -/
def sIx (c : Nat) : Nat := plF chS c 10
theorem sIx_le (c : Nat) : sIx c ≤ 10 := plF_le chS c 10
/-- a digit stands at a place -/
def dgB (tx : Nat → Nat) (n i : Nat) : Bool := decide (i < n ∧ 48 ≤ tx i ∧ tx i ≤ 57)
/-- reads on from a place: where it is wrong (as a successor), and the clauses told -/
def rdF (tx : Nat → Nat) (n : Nat) : Nat → Nat → Nat × List (Nat × Nat × Nat)
  | 0, _ => (0, [])
  | f + 1, i => if n ≤ i then (0, []) else if sIx (tx i) = 0 then (i + 1, [])
    else if sIx (tx i) = 5 ∨ sIx (tx i) = 6 then
      (if dgB tx n (i + 1) = false then (i + 2, []) else if dgB tx n (i + 2) = false then (i + 3, []) else ((rdF tx n f (i + 3)).1, (sIx (tx i) - 1, tx (i + 1) - 48, tx (i + 2) - 48) :: (rdF tx n f (i + 3)).2))
    else if 3 ≤ sIx (tx i) ∧ sIx (tx i) ≤ 7 then
      (if dgB tx n (i + 1) = false then (i + 2, []) else ((rdF tx n f (i + 2)).1, (sIx (tx i) - 1, tx (i + 1) - 48, 0) :: (rdF tx n f (i + 2)).2))
    else ((rdF tx n f (i + 1)).1, (sIx (tx i) - 1, 0, 0) :: (rdF tx n f (i + 1)).2)
def rd (T : List Nat) : Nat × List (Nat × Nat × Nat) := if T.length = 0 then (1, []) else rdF (fun i => T.getD i 0) T.length T.length 0
section READ
variable {G : mG} {y : mY} {d pc : Nat} {L : List (Option Value)} {st : List Value} {B M : mM} {m t u th : Nat} {X : XT} {F : Nat → Nat} {D : Int32} {A : Nat → Nat → Nat} {Q : mQt}
theorem m_sortOf (c : Nat) (hc : c < 65536) (hq : Q (.inl (some (.int (pI (sIx c))))) M t u) : mMet G (d + 4) zX8_sortOf [.int (nI c)] M t u Q := by
  refine mMet.kn (fun hG => ?_)
  obtain ⟨la, lb, hL, hV⟩ := kLitM hG
  refine m_intro (by decide +kernel) ⟨Nat.le_of_ble_eq_true rfl, Nat.le_of_ble_eq_true rfl⟩ ?_
  show mW G _ _ 0 [some (.int (nI c)), none, none] [] _ _ _ _
  have loop : ∀ n i, i + n = 10 → mW G zX8_sortOf (d + 4) 4 [some (.int (nI c)), some (.int (pI (plF chS c i))), some (.int (nI i))] [] M t u Q := by
    intro n
    induction n with
    | zero =>
      intro i hi
      have hi : i = 10 := by omega
      subst hi
      refine r_iload_n dX8_sortOf_4 rfl ?_
      refine r_bipush (v := nI 9) dX8_sortOf_5 (by decide) ?_
      first | refine r_icmp_gt_n (tgt := 33) dX8_sortOf_7 (by decide) (by omega) (by omega) (fun h7 => ?_) (fun h7 => by exfalso; omega) | refine r_icmp_gt (tgt := 33) dX8_sortOf_7 (by decide) (fun h7 => ?_) (fun h7 => by exfalso; omega)
      refine r_iload_n dX8_sortOf_33 rfl ?_
      refine r_iret rfl (by first | rfl | exact bI_nar _ | exact (pk_charN (by first | assumption | omega)).1) dX8_sortOf_34 ?_
      exact hq
    | succ n ih =>
      intro i hi
      have hs := chS_lt i (by omega)
      have nx := ih (i + 1) (by omega)
      refine r_iload_n dX8_sortOf_4 rfl ?_
      refine r_bipush (v := nI 9) dX8_sortOf_5 (by decide) ?_
      first | refine r_icmp_gt_n (tgt := 33) dX8_sortOf_7 (by decide) (by omega) (by omega) (fun h7 => by exfalso; omega) (fun h7 => ?_) | refine r_icmp_gt (tgt := 33) dX8_sortOf_7 (by decide) (fun h7 => by exfalso; omega) (fun h7 => ?_)
      refine r_ldcwS hV dX8_sortOf_10 ?_
      refine r_iload_n dX8_sortOf_13 rfl ?_
      refine r_callLit s_X8_271_v dX8_sortOf_14 hL (by rfl) rfl (Nat.le_of_ble_eq_true rfl) (j_charAtL hL i (by omega) ?_)
      refine mK_r ?_
      refine r_iload_n dX8_sortOf_17 rfl ?_
      first | refine r_icmp_ne_n (tgt := 25) dX8_sortOf_18 (by decide) (by omega) (by omega) (fun h18 => ?_) (fun h18 => ?_) | refine r_icmp_ne_pn (tgt := 25) dX8_sortOf_18 (by decide) (by omega) (by omega) (fun h18 => ?_) (fun h18 => ?_) | refine r_icmp_ne_pm (tgt := 25) dX8_sortOf_18 (by decide) (by omega) (fun h18 => ?_) (fun h18 => ?_) | refine r_icmp_ne (tgt := 25) dX8_sortOf_18 (by decide) (fun h18 => ?_) (fun h18 => ?_)
      · refine r_iload_n dX8_sortOf_25 rfl ?_
        refine r_istore_n dX8_sortOf_26 (by decide) ?_
        simp only [mst1, mclr]
        first | refine r_iinc_n 1 dX8_sortOf_27 rfl (by decide) ?_ | refine r_iinc dX8_sortOf_27 rfl rfl (by decide) ?_
        simp only [mst1, mclr]
        refine r_goto (tgt := 4) dX8_sortOf_30 (by decide) ?_
        have e : plF chS c (i + 1) = plF chS c i := by show (if _ then _ else _) = _; rw [if_neg h18]
        rw [e] at nx; exact nx
      · refine r_iload_n dX8_sortOf_21 rfl ?_
        refine r_goto (tgt := 26) dX8_sortOf_22 (by decide) ?_
        refine r_istore_n dX8_sortOf_26 (by decide) ?_
        simp only [mst1, mclr]
        first | refine r_iinc_n 1 dX8_sortOf_27 rfl (by decide) ?_ | refine r_iinc dX8_sortOf_27 rfl rfl (by decide) ?_
        simp only [mst1, mclr]
        refine r_goto (tgt := 4) dX8_sortOf_30 (by decide) ?_
        have e : plF chS c (i + 1) = i + 1 := by show (if _ then _ else _) = _; rw [if_pos h18]
        rw [e] at nx; exact nx
  refine r_iconst (v := -1) dX8_sortOf_0 (by decide) ?_
  refine r_istore_n dX8_sortOf_1 (by decide) ?_
  simp only [mst1, mclr]
  refine r_iconst (v := nI 0) dX8_sortOf_2 (by decide) ?_
  refine r_istore_n dX8_sortOf_3 (by decide) ?_
  simp only [mst1, mclr]
  exact loop 10 0 (by omega)
end READ
