section WALK2
variable {G : mG} {y : mY} {d pc : Nat} {L : List (Option Value)} {st : List Value} {B M : mM} {m t u : Nat} {F : Nat → Nat} {D : Int32} {A : Nat → Nat → Nat} {Q : mQt}
theorem m_opens (h : MAt B M m F D A) (hb : mGb G ≤ m) (b k : Nat) (hby : b < 100) (hd : F 18 < 24)
   (hq : ∀ M A', MAt B M m (fU F 18 (F 18 + 1)) D A' → A' 5 = fU (A 5) (F 18) b → (b = 8 → ∀ j, j < 31 → A' 11 (31 * (F 18 + 1) + j) = A 10 j) → (∀ i, i ≠ 5 → i ≠ 11 → A' i = A i) → (∀ j, (j < 31 * (F 18 + 1) ∨ 31 * (F 18 + 1) + 31 ≤ j) → A' 11 j = A 11 j) → Q (.inl none) M t u) : mMet G d zX8_opens [.ref m, .int (nI b), .int (nI k)] M t u Q := by
  refine m_intro (by decide +kernel) ⟨Nat.le_of_ble_eq_true rfl, Nat.le_of_ble_eq_true rfl⟩ ?_
  show mW G _ _ 0 [some (.ref m), some (.int (nI b)), some (.int (nI k))] [] _ _ _ _
  first | refine r_aload_n dX8_opens_0 rfl ?_ | refine r_aload_nq dX8_opens_0 rfl ?_ | refine r_aload_nN dX8_opens_0 rfl ?_
  refine r_dup dX8_opens_1 (by rfl) ?_
  refine r_getf f_X8_173_7 (by first | exact MAt.o (by assumption) | exact MAt.a1 (by assumption) | exact MAt.a2 (by assumption) | exact MAt.a3 (by assumption) | exact MAt.a4 (by assumption) | exact MAt.a5 (by assumption) | exact MAt.a6 (by assumption) | exact MAt.a7 (by assumption) | exact MAt.a8 (by assumption) | exact MAt.a9 (by assumption) | exact MAt.a10 (by assumption) | exact MAt.a11 (by assumption) | exact MAt.a12 (by assumption) | exact MAt.a13 (by assumption) | exact MAt.a14 (by assumption) | exact MAt.a15 (by assumption) | exact MAt.a16 (by assumption)) (by rfl) dX8_opens_2 ?_
  refine r_iconst (v := nI 1) dX8_opens_5 (by decide) ?_
  first | refine r_iadd_n dX8_opens_6 ?_ | refine r_iadd dX8_opens_6 ?_
  refine r_putf f_X8_173_7 ft_7_18 (by first | exact MAt.o (by assumption) | exact MAt.a1 (by assumption) | exact MAt.a2 (by assumption) | exact MAt.a3 (by assumption) | exact MAt.a4 (by assumption) | exact MAt.a5 (by assumption) | exact MAt.a6 (by assumption) | exact MAt.a7 (by assumption) | exact MAt.a8 (by assumption) | exact MAt.a9 (by assumption) | exact MAt.a10 (by assumption) | exact MAt.a11 (by assumption) | exact MAt.a12 (by assumption) | exact MAt.a13 (by assumption) | exact MAt.a14 (by assumption) | exact MAt.a15 (by assumption) | exact MAt.a16 (by assumption)) (by omega) (by first | rfl | exact bI_nar _) (by first | rfl | exact bI_fit _) dX8_opens_7 ?_
  refine MAt.p18 (by assumption) (fun M hM => ?_)
  first | refine r_aload_n dX8_opens_10 rfl ?_ | refine r_aload_nq dX8_opens_10 rfl ?_ | refine r_aload_nN dX8_opens_10 rfl ?_
  refine r_getf f_X8_22_7 (by first | exact MAt.o (by assumption) | exact MAt.a1 (by assumption) | exact MAt.a2 (by assumption) | exact MAt.a3 (by assumption) | exact MAt.a4 (by assumption) | exact MAt.a5 (by assumption) | exact MAt.a6 (by assumption) | exact MAt.a7 (by assumption) | exact MAt.a8 (by assumption) | exact MAt.a9 (by assumption) | exact MAt.a10 (by assumption) | exact MAt.a11 (by assumption) | exact MAt.a12 (by assumption) | exact MAt.a13 (by assumption) | exact MAt.a14 (by assumption) | exact MAt.a15 (by assumption) | exact MAt.a16 (by assumption)) (by rfl) dX8_opens_11 ?_
  first | refine r_aload_n dX8_opens_14 rfl ?_ | refine r_aload_nq dX8_opens_14 rfl ?_ | refine r_aload_nN dX8_opens_14 rfl ?_
  refine r_getf f_X8_173_7 (by first | exact MAt.o (by assumption) | exact MAt.a1 (by assumption) | exact MAt.a2 (by assumption) | exact MAt.a3 (by assumption) | exact MAt.a4 (by assumption) | exact MAt.a5 (by assumption) | exact MAt.a6 (by assumption) | exact MAt.a7 (by assumption) | exact MAt.a8 (by assumption) | exact MAt.a9 (by assumption) | exact MAt.a10 (by assumption) | exact MAt.a11 (by assumption) | exact MAt.a12 (by assumption) | exact MAt.a13 (by assumption) | exact MAt.a14 (by assumption) | exact MAt.a15 (by assumption) | exact MAt.a16 (by assumption)) (by rfl) dX8_opens_15 ?_
  rw [fU_eq]
  refine r_iconst (v := nI 1) dX8_opens_18 (by decide) ?_
  first | refine r_isub_n dX8_opens_19 (by omega) ?_ | refine r_isub dX8_opens_19 ?_
  refine r_iload_n dX8_opens_20 rfl ?_
  refine r_iast_n (by first | exact MAt.o (by assumption) | exact MAt.a1 (by assumption) | exact MAt.a2 (by assumption) | exact MAt.a3 (by assumption) | exact MAt.a4 (by assumption) | exact MAt.a5 (by assumption) | exact MAt.a6 (by assumption) | exact MAt.a7 (by assumption) | exact MAt.a8 (by assumption) | exact MAt.a9 (by assumption) | exact MAt.a10 (by assumption) | exact MAt.a11 (by assumption) | exact MAt.a12 (by assumption) | exact MAt.a13 (by assumption) | exact MAt.a14 (by assumption) | exact MAt.a15 (by assumption) | exact MAt.a16 (by assumption)) (by rfl) (by omega) (by omega) (by omega) dX8_opens_21 ?_
  first | refine MAt.g1 (by assumption) (fun M hM => ?_) | refine MAt.g2 (by assumption) (fun M hM => ?_) | refine MAt.g3 (by assumption) (fun M hM => ?_) | refine MAt.g4 (by assumption) (fun M hM => ?_) | refine MAt.g5 (by assumption) (fun M hM => ?_) | refine MAt.g6 (by assumption) (fun M hM => ?_) | refine MAt.g7 (by assumption) (fun M hM => ?_) | refine MAt.g8 (by assumption) (fun M hM => ?_) | refine MAt.g9 (by assumption) (fun M hM => ?_) | refine MAt.g16 (by assumption) (fun M hM => ?_) | refine MAt.g10 _ (by assumption) ?_ (fun M hM => ?_) | refine MAt.g11 _ (by assumption) ?_ (fun M hM => ?_) | refine MAt.g12 _ (by assumption) ?_ (fun M hM => ?_)
  have e5 : fU (A 5) (F 18 + 1 - 1) b = fU (A 5) (F 18) b := rfl
  rw [e5] at hM
  first | refine r_aload_n dX8_opens_22 rfl ?_ | refine r_aload_nq dX8_opens_22 rfl ?_ | refine r_aload_nN dX8_opens_22 rfl ?_
  refine r_getf f_X8_37_7 (by first | exact MAt.o (by assumption) | exact MAt.a1 (by assumption) | exact MAt.a2 (by assumption) | exact MAt.a3 (by assumption) | exact MAt.a4 (by assumption) | exact MAt.a5 (by assumption) | exact MAt.a6 (by assumption) | exact MAt.a7 (by assumption) | exact MAt.a8 (by assumption) | exact MAt.a9 (by assumption) | exact MAt.a10 (by assumption) | exact MAt.a11 (by assumption) | exact MAt.a12 (by assumption) | exact MAt.a13 (by assumption) | exact MAt.a14 (by assumption) | exact MAt.a15 (by assumption) | exact MAt.a16 (by assumption)) (by rfl) dX8_opens_23 ?_
  refine r_iconst (v := nI 0) dX8_opens_26 (by decide) ?_
  first | refine r_aload_n dX8_opens_27 rfl ?_ | refine r_aload_nq dX8_opens_27 rfl ?_ | refine r_aload_nN dX8_opens_27 rfl ?_
  refine r_getf f_X8_40_7 (by first | exact MAt.o (by assumption) | exact MAt.a1 (by assumption) | exact MAt.a2 (by assumption) | exact MAt.a3 (by assumption) | exact MAt.a4 (by assumption) | exact MAt.a5 (by assumption) | exact MAt.a6 (by assumption) | exact MAt.a7 (by assumption) | exact MAt.a8 (by assumption) | exact MAt.a9 (by assumption) | exact MAt.a10 (by assumption) | exact MAt.a11 (by assumption) | exact MAt.a12 (by assumption) | exact MAt.a13 (by assumption) | exact MAt.a14 (by assumption) | exact MAt.a15 (by assumption) | exact MAt.a16 (by assumption)) (by rfl) dX8_opens_28 ?_
  refine r_bipush (v := nI 31) dX8_opens_31 (by decide) ?_
  first | refine r_aload_n dX8_opens_33 rfl ?_ | refine r_aload_nq dX8_opens_33 rfl ?_ | refine r_aload_nN dX8_opens_33 rfl ?_
  refine r_getf f_X8_173_7 (by first | exact MAt.o (by assumption) | exact MAt.a1 (by assumption) | exact MAt.a2 (by assumption) | exact MAt.a3 (by assumption) | exact MAt.a4 (by assumption) | exact MAt.a5 (by assumption) | exact MAt.a6 (by assumption) | exact MAt.a7 (by assumption) | exact MAt.a8 (by assumption) | exact MAt.a9 (by assumption) | exact MAt.a10 (by assumption) | exact MAt.a11 (by assumption) | exact MAt.a12 (by assumption) | exact MAt.a13 (by assumption) | exact MAt.a14 (by assumption) | exact MAt.a15 (by assumption) | exact MAt.a16 (by assumption)) (by rfl) dX8_opens_34 ?_
  rw [fU_eq]
  first | refine r_imul_n dX8_opens_37 ?_ | refine r_imul dX8_opens_37 ?_
  refine r_iload_n dX8_opens_38 rfl ?_
  refine r_bipush (v := nI 8) dX8_opens_39 (by decide) ?_
  first | refine r_icmp_ne_n (tgt := 49) dX8_opens_41 (by decide) (by omega) (by omega) (fun h41 => ?_) (fun h41 => ?_) | refine r_icmp_ne_pn (tgt := 49) dX8_opens_41 (by decide) (by omega) (by omega) (fun h41 => ?_) (fun h41 => ?_) | refine r_icmp_ne_pm (tgt := 49) dX8_opens_41 (by decide) (by omega) (fun h41 => ?_) (fun h41 => ?_) | refine r_icmp_ne (tgt := 49) dX8_opens_41 (by decide) (fun h41 => ?_) (fun h41 => ?_)
  · refine r_iconst (v := nI 0) dX8_opens_49 (by decide) ?_
    refine r_mcopyS (n0 := 31) (n1 := 775) (MAt.a10 hM) (MAt.a11 hM) q1836 (by omega) (by omega) (by omega) (by omega) (by omega) (by omega) (Nat.le_of_ble_eq_true rfl) dX8_opens_50 ?_
    refine MAt.k11 (by assumption) (fun M hM => ?_)
    refine r_vret rfl dX8_opens_53 ?_
    refine hq _ _ hM rfl (fun h => absurd h h41) (fun i h1 h2 => by rw [fA_ne h2, fA_ne h1]) (fun j hj => ?_)
    rw [fA_eq]; unfold va_cpy; rw [if_neg (by omega)]; rfl
  · refine r_bipush (v := nI 31) dX8_opens_44 (by decide) ?_
    refine r_goto (tgt := 50) dX8_opens_46 (by decide) ?_
    refine r_mcopyS (n0 := 31) (n1 := 775) (MAt.a10 hM) (MAt.a11 hM) q1836 (by omega) (by omega) (by omega) (by omega) (by omega) (by omega) (Nat.le_of_ble_eq_true rfl) dX8_opens_50 ?_
    refine MAt.k11 (by assumption) (fun M hM => ?_)
    refine r_vret rfl dX8_opens_53 ?_
    refine hq _ _ hM rfl (fun _ j hj => ?_) (fun i h1 h2 => by rw [fA_ne h2, fA_ne h1]) (fun j hj => ?_)
    · rw [fA_eq]; unfold va_cpy; rw [if_pos (by omega), show 0 + (31 * (F 18 + 1) + j - 31 * (F 18 + 1)) = j by omega]; rfl
    · rw [fA_eq]; unfold va_cpy; rw [if_neg (by omega)]; rfl
theorem m_ploughsOn (h : MAt B M m F D A) (g : Nat) (w : Bool) (hg : g < 100) (hz : ∀ j, j < 31 → A 10 j ≤ 30) (hq : Q (.inl (some (.int (nI (zOn (A 10) g w))))) M t u) : mMet G d zX8_ploughsOn [.ref m, .int (nI g), .int (bI w)] M t u Q := by
  refine m_intro (by decide +kernel) ⟨Nat.le_of_ble_eq_true rfl, Nat.le_of_ble_eq_true rfl⟩ ?_
  show mW G _ _ 0 [some (.ref m), some (.int (nI g)), some (.int (bI w)), none, none] [] _ _ _ _
  have loop : ∀ n i, i + n = 5 → mW G zX8_ploughsOn d 5 [some (.ref m), some (.int (nI g)), some (.int (bI w)), some (.int (nI (cntF (fun p => decide (A 10 (16 + p) = g + 1 ∧ (w = true → A 10 (21 + p) = 1))) i))), some (.int (nI i))] [] M t u Q := by
    intro n
    induction n with
    | zero =>
      intro i hi
      have hi : i = 5 := by omega
      subst hi
      refine r_iload dX8_ploughsOn_5 rfl ?_
      refine r_iconst (v := nI 5) dX8_ploughsOn_7 (by decide) ?_
      first | refine r_icmp_ge_n (tgt := 57) dX8_ploughsOn_8 (by decide) (by omega) (by omega) (fun h8 => ?_) (fun h8 => by exfalso; omega) | refine r_icmp_ge (tgt := 57) dX8_ploughsOn_8 (by decide) (fun h8 => ?_) (fun h8 => by exfalso; omega)
      refine r_iload_n dX8_ploughsOn_57 rfl ?_
      refine r_iret rfl (by first | rfl | exact bI_nar _) dX8_ploughsOn_58 ?_
      exact hq
    | succ n ih =>
      intro i hi
      have b1 := hz (16 + i) (by omega)
      have b2 := hz (21 + i) (by omega)
      have nx : ∀ c : Bool, c = decide (A 10 (16 + i) = g + 1 ∧ (w = true → A 10 (21 + i) = 1)) → mW G zX8_ploughsOn d 49 [some (.ref m), some (.int (nI g)), some (.int (bI w)), some (.int (nI (cntF (fun p => decide (A 10 (16 + p) = g + 1 ∧ (w = true → A 10 (21 + p) = 1))) i))), some (.int (nI i))] [.int (nI (if c = true then 1 else 0)), .int (nI (cntF (fun p => decide (A 10 (16 + p) = g + 1 ∧ (w = true → A 10 (21 + p) = 1))) i))] M t u Q := by
        intro c hc
        first | refine r_iadd_n dX8_ploughsOn_49 ?_ | refine r_iadd dX8_ploughsOn_49 ?_
        refine r_istore_n dX8_ploughsOn_50 (by decide) ?_
        simp only [mst1, mclr]
        first | refine r_iinc_n 1 dX8_ploughsOn_51 rfl (by decide) ?_ | refine r_iinc dX8_ploughsOn_51 rfl rfl (by decide) ?_
        simp only [mst1, mclr]
        refine r_goto (tgt := 5) dX8_ploughsOn_54 (by decide) ?_
        rw [hc]
        exact ih (i + 1) (by omega)
      have yes : (A 10 (16 + i) = g + 1 ∧ (w = true → A 10 (21 + i) = 1)) → mW G zX8_ploughsOn d 44 [some (.ref m), some (.int (nI g)), some (.int (bI w)), some (.int (nI (cntF (fun p => decide (A 10 (16 + p) = g + 1 ∧ (w = true → A 10 (21 + p) = 1))) i))), some (.int (nI i))] [.int (nI (cntF (fun p => decide (A 10 (16 + p) = g + 1 ∧ (w = true → A 10 (21 + p) = 1))) i))] M t u Q := by
        intro hc
        refine r_iconst (v := nI 1) dX8_ploughsOn_44 (by decide) ?_
        refine r_goto (tgt := 49) dX8_ploughsOn_45 (by decide) ?_
        exact nx true (decide_eq_true hc).symm
      have no : ¬ (A 10 (16 + i) = g + 1 ∧ (w = true → A 10 (21 + i) = 1)) → mW G zX8_ploughsOn d 48 [some (.ref m), some (.int (nI g)), some (.int (bI w)), some (.int (nI (cntF (fun p => decide (A 10 (16 + p) = g + 1 ∧ (w = true → A 10 (21 + p) = 1))) i))), some (.int (nI i))] [.int (nI (cntF (fun p => decide (A 10 (16 + p) = g + 1 ∧ (w = true → A 10 (21 + p) = 1))) i))] M t u Q := by
        intro hc
        refine r_iconst (v := nI 0) dX8_ploughsOn_48 (by decide) ?_
        exact nx false (decide_eq_false hc).symm
      refine r_iload dX8_ploughsOn_5 rfl ?_
      refine r_iconst (v := nI 5) dX8_ploughsOn_7 (by decide) ?_
      first | refine r_icmp_ge_n (tgt := 57) dX8_ploughsOn_8 (by decide) (by omega) (by omega) (fun h8 => by exfalso; omega) (fun h8 => ?_) | refine r_icmp_ge (tgt := 57) dX8_ploughsOn_8 (by decide) (fun h8 => by exfalso; omega) (fun h8 => ?_)
      refine r_iload_n dX8_ploughsOn_11 rfl ?_
      first | refine r_aload_n dX8_ploughsOn_12 rfl ?_ | refine r_aload_nq dX8_ploughsOn_12 rfl ?_ | refine r_aload_nN dX8_ploughsOn_12 rfl ?_
      refine r_getf f_X8_37_7 (by first | exact MAt.o (by assumption) | exact MAt.a1 (by assumption) | exact MAt.a2 (by assumption) | exact MAt.a3 (by assumption) | exact MAt.a4 (by assumption) | exact MAt.a5 (by assumption) | exact MAt.a6 (by assumption) | exact MAt.a7 (by assumption) | exact MAt.a8 (by assumption) | exact MAt.a9 (by assumption) | exact MAt.a10 (by assumption) | exact MAt.a11 (by assumption) | exact MAt.a12 (by assumption) | exact MAt.a13 (by assumption) | exact MAt.a14 (by assumption) | exact MAt.a15 (by assumption) | exact MAt.a16 (by assumption)) (by rfl) dX8_ploughsOn_13 ?_
      refine r_bipush (v := nI 16) dX8_ploughsOn_16 (by decide) ?_
      refine r_iload dX8_ploughsOn_18 rfl ?_
      first | refine r_iadd_n dX8_ploughsOn_20 ?_ | refine r_iadd dX8_ploughsOn_20 ?_
      refine r_iald_n (by first | exact MAt.o (by assumption) | exact MAt.a1 (by assumption) | exact MAt.a2 (by assumption) | exact MAt.a3 (by assumption) | exact MAt.a4 (by assumption) | exact MAt.a5 (by assumption) | exact MAt.a6 (by assumption) | exact MAt.a7 (by assumption) | exact MAt.a8 (by assumption) | exact MAt.a9 (by assumption) | exact MAt.a10 (by assumption) | exact MAt.a11 (by assumption) | exact MAt.a12 (by assumption) | exact MAt.a13 (by assumption) | exact MAt.a14 (by assumption) | exact MAt.a15 (by assumption) | exact MAt.a16 (by assumption)) (by rfl) (by omega) (by omega) dX8_ploughsOn_21 ?_
      rw [sE_p (by omega)]
      refine r_iload_n dX8_ploughsOn_22 rfl ?_
      first | refine r_icmp_ne_n (tgt := 48) dX8_ploughsOn_23 (by decide) (by omega) (by omega) (fun h23 => ?_) (fun h23 => ?_) | refine r_icmp_ne_pn (tgt := 48) dX8_ploughsOn_23 (by decide) (by omega) (by omega) (fun h23 => ?_) (fun h23 => ?_) | refine r_icmp_ne_pm (tgt := 48) dX8_ploughsOn_23 (by decide) (by omega) (fun h23 => ?_) (fun h23 => ?_) | refine r_icmp_ne (tgt := 48) dX8_ploughsOn_23 (by decide) (fun h23 => ?_) (fun h23 => ?_)
      · exact no (fun hh => h23 hh.1)
      · refine r_iload_n dX8_ploughsOn_26 rfl ?_
        refine r_if_eq_b (tgt := 44) dX8_ploughsOn_27 (by decide) (fun h27 => ?_) (fun h27 => ?_)
        · exact yes ⟨h23, fun hh => by rw [h27] at hh; cases hh⟩
        · first | refine r_aload_n dX8_ploughsOn_30 rfl ?_ | refine r_aload_nq dX8_ploughsOn_30 rfl ?_ | refine r_aload_nN dX8_ploughsOn_30 rfl ?_
          refine r_getf f_X8_37_7 (by first | exact MAt.o (by assumption) | exact MAt.a1 (by assumption) | exact MAt.a2 (by assumption) | exact MAt.a3 (by assumption) | exact MAt.a4 (by assumption) | exact MAt.a5 (by assumption) | exact MAt.a6 (by assumption) | exact MAt.a7 (by assumption) | exact MAt.a8 (by assumption) | exact MAt.a9 (by assumption) | exact MAt.a10 (by assumption) | exact MAt.a11 (by assumption) | exact MAt.a12 (by assumption) | exact MAt.a13 (by assumption) | exact MAt.a14 (by assumption) | exact MAt.a15 (by assumption) | exact MAt.a16 (by assumption)) (by rfl) dX8_ploughsOn_31 ?_
          refine r_bipush (v := nI 21) dX8_ploughsOn_34 (by decide) ?_
          refine r_iload dX8_ploughsOn_36 rfl ?_
          first | refine r_iadd_n dX8_ploughsOn_38 ?_ | refine r_iadd dX8_ploughsOn_38 ?_
          refine r_iald_n (by first | exact MAt.o (by assumption) | exact MAt.a1 (by assumption) | exact MAt.a2 (by assumption) | exact MAt.a3 (by assumption) | exact MAt.a4 (by assumption) | exact MAt.a5 (by assumption) | exact MAt.a6 (by assumption) | exact MAt.a7 (by assumption) | exact MAt.a8 (by assumption) | exact MAt.a9 (by assumption) | exact MAt.a10 (by assumption) | exact MAt.a11 (by assumption) | exact MAt.a12 (by assumption) | exact MAt.a13 (by assumption) | exact MAt.a14 (by assumption) | exact MAt.a15 (by assumption) | exact MAt.a16 (by assumption)) (by rfl) (by omega) (by omega) dX8_ploughsOn_39 ?_
          rw [sE_n (by omega)]
          refine r_iconst (v := nI 1) dX8_ploughsOn_40 (by decide) ?_
          first | refine r_icmp_ne_n (tgt := 48) dX8_ploughsOn_41 (by decide) (by omega) (by omega) (fun h41 => ?_) (fun h41 => ?_) | refine r_icmp_ne_pn (tgt := 48) dX8_ploughsOn_41 (by decide) (by omega) (by omega) (fun h41 => ?_) (fun h41 => ?_) | refine r_icmp_ne_pm (tgt := 48) dX8_ploughsOn_41 (by decide) (by omega) (fun h41 => ?_) (fun h41 => ?_) | refine r_icmp_ne (tgt := 48) dX8_ploughsOn_41 (by decide) (fun h41 => ?_) (fun h41 => ?_)
          · exact no (fun hh => h41 (hh.2 h27))
          · exact yes ⟨h23, fun _ => h41⟩
  refine r_iconst (v := nI 0) dX8_ploughsOn_0 (by decide) ?_
  refine r_istore_n dX8_ploughsOn_1 (by decide) ?_
  simp only [mst1, mclr]
  refine r_iconst (v := nI 0) dX8_ploughsOn_2 (by decide) ?_
  refine r_istore dX8_ploughsOn_3 (by decide) ?_
  simp only [mst1, mclr]
  exact loop 5 0 rfl
theorem m_brings (h : MAt B M m F D A) (hb : mGb G ≤ m) (k g : Nat) (hg : g < 8) (hz : ∀ j, j < 31 → A 10 j ≤ 30)
   (hE : A 10 g ≠ 0 → ∀ M, MAt B M m (fU (fU (fU F 19 2) 20 (k + 1)) 21 (g + 1)) D A → Q (.inl (some (.int (bI false)))) M t u)
   (hN : A 10 g = 0 → ∀ M, MAt B M m F D (fA A 10 (zBring (A 10) g (F 18))) → Q (.inl (some (.int (bI true)))) M t u) : mMet G (d + 1) zX8_brings [.ref m, .int (nI k), .int (nI g)] M t u Q := by
  refine m_intro (by decide +kernel) ⟨Nat.le_of_ble_eq_true rfl, Nat.le_of_ble_eq_true rfl⟩ ?_
  show mW G _ _ 0 [some (.ref m), some (.int (nI k)), some (.int (nI g))] [] _ _ _ _
  have b1 := hz g (by omega)
  first | refine r_aload_n dX8_brings_0 rfl ?_ | refine r_aload_nq dX8_brings_0 rfl ?_ | refine r_aload_nN dX8_brings_0 rfl ?_
  refine r_getf f_X8_37_7 (by first | exact MAt.o (by assumption) | exact MAt.a1 (by assumption) | exact MAt.a2 (by assumption) | exact MAt.a3 (by assumption) | exact MAt.a4 (by assumption) | exact MAt.a5 (by assumption) | exact MAt.a6 (by assumption) | exact MAt.a7 (by assumption) | exact MAt.a8 (by assumption) | exact MAt.a9 (by assumption) | exact MAt.a10 (by assumption) | exact MAt.a11 (by assumption) | exact MAt.a12 (by assumption) | exact MAt.a13 (by assumption) | exact MAt.a14 (by assumption) | exact MAt.a15 (by assumption) | exact MAt.a16 (by assumption)) (by rfl) dX8_brings_1 ?_
  refine r_iconst (v := nI 0) dX8_brings_4 (by decide) ?_
  refine r_iload_n dX8_brings_5 rfl ?_
  first | refine r_iadd_n dX8_brings_6 ?_ | refine r_iadd dX8_brings_6 ?_
  rw [Nat.zero_add g]
  refine r_iald_n (by first | exact MAt.o (by assumption) | exact MAt.a1 (by assumption) | exact MAt.a2 (by assumption) | exact MAt.a3 (by assumption) | exact MAt.a4 (by assumption) | exact MAt.a5 (by assumption) | exact MAt.a6 (by assumption) | exact MAt.a7 (by assumption) | exact MAt.a8 (by assumption) | exact MAt.a9 (by assumption) | exact MAt.a10 (by assumption) | exact MAt.a11 (by assumption) | exact MAt.a12 (by assumption) | exact MAt.a13 (by assumption) | exact MAt.a14 (by assumption) | exact MAt.a15 (by assumption) | exact MAt.a16 (by assumption)) (by rfl) (by omega) (by omega) dX8_brings_7 ?_
  rw [sE_n (by omega)]
  refine r_if_eq_n (tgt := 19) dX8_brings_8 (by decide) (by omega) (fun h8 => ?_) (fun h8 => ?_)
  · first | refine r_aload_n dX8_brings_19 rfl ?_ | refine r_aload_nq dX8_brings_19 rfl ?_ | refine r_aload_nN dX8_brings_19 rfl ?_
    refine r_getf f_X8_37_7 (by first | exact MAt.o (by assumption) | exact MAt.a1 (by assumption) | exact MAt.a2 (by assumption) | exact MAt.a3 (by assumption) | exact MAt.a4 (by assumption) | exact MAt.a5 (by assumption) | exact MAt.a6 (by assumption) | exact MAt.a7 (by assumption) | exact MAt.a8 (by assumption) | exact MAt.a9 (by assumption) | exact MAt.a10 (by assumption) | exact MAt.a11 (by assumption) | exact MAt.a12 (by assumption) | exact MAt.a13 (by assumption) | exact MAt.a14 (by assumption) | exact MAt.a15 (by assumption) | exact MAt.a16 (by assumption)) (by rfl) dX8_brings_20 ?_
    refine r_iconst (v := nI 0) dX8_brings_23 (by decide) ?_
    refine r_iload_n dX8_brings_24 rfl ?_
    first | refine r_iadd_n dX8_brings_25 ?_ | refine r_iadd dX8_brings_25 ?_
    rw [Nat.zero_add g]
    refine r_iconst (v := nI 1) dX8_brings_26 (by decide) ?_
    refine r_iast_n (by first | exact MAt.o (by assumption) | exact MAt.a1 (by assumption) | exact MAt.a2 (by assumption) | exact MAt.a3 (by assumption) | exact MAt.a4 (by assumption) | exact MAt.a5 (by assumption) | exact MAt.a6 (by assumption) | exact MAt.a7 (by assumption) | exact MAt.a8 (by assumption) | exact MAt.a9 (by assumption) | exact MAt.a10 (by assumption) | exact MAt.a11 (by assumption) | exact MAt.a12 (by assumption) | exact MAt.a13 (by assumption) | exact MAt.a14 (by assumption) | exact MAt.a15 (by assumption) | exact MAt.a16 (by assumption)) (by rfl) (by omega) (by omega) (by omega) dX8_brings_27 ?_
    refine MAt.g10 1 (by assumption) (by first | (refine Eq.trans (show _ = nI (1) from rfl) (sE_n ?_).symm; omega) | (refine Eq.trans (show _ = pI (1) from rfl) (sE_p ?_).symm; omega)) (fun M hM => ?_)
    first | refine r_aload_n dX8_brings_28 rfl ?_ | refine r_aload_nq dX8_brings_28 rfl ?_ | refine r_aload_nN dX8_brings_28 rfl ?_
    refine r_getf f_X8_37_7 (by first | exact MAt.o (by assumption) | exact MAt.a1 (by assumption) | exact MAt.a2 (by assumption) | exact MAt.a3 (by assumption) | exact MAt.a4 (by assumption) | exact MAt.a5 (by assumption) | exact MAt.a6 (by assumption) | exact MAt.a7 (by assumption) | exact MAt.a8 (by assumption) | exact MAt.a9 (by assumption) | exact MAt.a10 (by assumption) | exact MAt.a11 (by assumption) | exact MAt.a12 (by assumption) | exact MAt.a13 (by assumption) | exact MAt.a14 (by assumption) | exact MAt.a15 (by assumption) | exact MAt.a16 (by assumption)) (by rfl) dX8_brings_29 ?_
    refine r_bipush (v := nI 8) dX8_brings_32 (by decide) ?_
    refine r_iload_n dX8_brings_34 rfl ?_
    first | refine r_iadd_n dX8_brings_35 ?_ | refine r_iadd dX8_brings_35 ?_
    first | refine r_aload_n dX8_brings_36 rfl ?_ | refine r_aload_nq dX8_brings_36 rfl ?_ | refine r_aload_nN dX8_brings_36 rfl ?_
    refine r_getf f_X8_173_7 (by first | exact MAt.o (by assumption) | exact MAt.a1 (by assumption) | exact MAt.a2 (by assumption) | exact MAt.a3 (by assumption) | exact MAt.a4 (by assumption) | exact MAt.a5 (by assumption) | exact MAt.a6 (by assumption) | exact MAt.a7 (by assumption) | exact MAt.a8 (by assumption) | exact MAt.a9 (by assumption) | exact MAt.a10 (by assumption) | exact MAt.a11 (by assumption) | exact MAt.a12 (by assumption) | exact MAt.a13 (by assumption) | exact MAt.a14 (by assumption) | exact MAt.a15 (by assumption) | exact MAt.a16 (by assumption)) (by rfl) dX8_brings_37 ?_
    refine r_iast_n (by first | exact MAt.o (by assumption) | exact MAt.a1 (by assumption) | exact MAt.a2 (by assumption) | exact MAt.a3 (by assumption) | exact MAt.a4 (by assumption) | exact MAt.a5 (by assumption) | exact MAt.a6 (by assumption) | exact MAt.a7 (by assumption) | exact MAt.a8 (by assumption) | exact MAt.a9 (by assumption) | exact MAt.a10 (by assumption) | exact MAt.a11 (by assumption) | exact MAt.a12 (by assumption) | exact MAt.a13 (by assumption) | exact MAt.a14 (by assumption) | exact MAt.a15 (by assumption) | exact MAt.a16 (by assumption)) (by rfl) (by omega) (by omega) (by omega) dX8_brings_40 ?_
    refine MAt.g10 (F 18) (by assumption) (by first | (refine Eq.trans (show _ = nI ((F 18)) from rfl) (sE_n ?_).symm; omega) | (refine Eq.trans (show _ = pI ((F 18)) from rfl) (sE_p ?_).symm; omega)) (fun M hM => ?_)
    refine r_iconst (v := nI 1) dX8_brings_41 (by decide) ?_
    refine r_iret rfl (by first | rfl | exact bI_nar _) dX8_brings_42 ?_
    refine hN h8 _ ?_
    have e : fA (fA A 10 (fU (A 10) g 1)) 10 (fU (fA A 10 (fU (A 10) g 1) 10) (8 + g) (F 18)) = fA A 10 (zBring (A 10) g (F 18)) := by
      rw [fA_eq]; funext q; unfold fA zBring; split <;> rfl
    rw [← e]; exact hM
  · first | refine r_aload_n dX8_brings_11 rfl ?_ | refine r_aload_nq dX8_brings_11 rfl ?_ | refine r_aload_nN dX8_brings_11 rfl ?_
    refine r_iconst (v := nI 2) dX8_brings_12 (by decide) ?_
    refine r_iload_n dX8_brings_13 rfl ?_
    refine r_iload_n dX8_brings_14 rfl ?_
    refine r_callV s_X8_188_v dX8_brings_15 (by first | exact MAt.o (by assumption) | exact MAt.a1 (by assumption) | exact MAt.a2 (by assumption) | exact MAt.a3 (by assumption) | exact MAt.a4 (by assumption) | exact MAt.a5 (by assumption) | exact MAt.a6 (by assumption) | exact MAt.a7 (by assumption) | exact MAt.a8 (by assumption) | exact MAt.a9 (by assumption) | exact MAt.a10 (by assumption) | exact MAt.a11 (by assumption) | exact MAt.a12 (by assumption) | exact MAt.a13 (by assumption) | exact MAt.a14 (by assumption) | exact MAt.a15 (by assumption) | exact MAt.a16 (by assumption)) (by rfl) rfl (Nat.le_of_ble_eq_true rfl) (m_errs h hb 2 (k + 1) (g + 1) (fun M hM => ?_))
    refine mK_r ?_
    refine r_iret rfl (by first | rfl | exact bI_nar _) dX8_brings_18 ?_
    exact hE (by omega) _ hM
theorem m_gives (h : MAt B M m F D A) (hb : mGb G ≤ m) (k g : Nat) (hg : g < 8) (hk : A 1 (21 + g) < 3) (hz : ∀ j, j < 31 → A 10 j ≤ 30)
   (hE3 : A 10 g ≠ 1 → ∀ M, MAt B M m (fU (fU (fU F 19 3) 20 (k + 1)) 21 (g + 1)) D A → Q (.inl (some (.int (bI false)))) M t u)
   (hE4 : A 10 g = 1 → 0 < zOn (A 10) g false → ∀ M, MAt B M m (fU (fU (fU F 19 4) 20 (k + 1)) 21 (g + 1)) D A → Q (.inl (some (.int (bI false)))) M t u)
   (hN : A 10 g = 1 → zOn (A 10) g false = 0 → ∀ M, MAt B M m F D (fA A 10 (fU (A 10) g (if A 1 (21 + g) = 2 then 1 else 0))) → Q (.inl (some (.int (bI true)))) M t u) : mMet G (d + 1) zX8_gives [.ref m, .int (nI k), .int (nI g)] M t u Q := by
  refine m_intro (by decide +kernel) ⟨Nat.le_of_ble_eq_true rfl, Nat.le_of_ble_eq_true rfl⟩ ?_
  show mW G _ _ 0 [some (.ref m), some (.int (nI k)), some (.int (nI g))] [] _ _ _ _
  have b1 := hz g (by omega)
  have b2 : zOn (A 10) g false ≤ 5 := cntF_le _ 5
  first | refine r_aload_n dX8_gives_0 rfl ?_ | refine r_aload_nq dX8_gives_0 rfl ?_ | refine r_aload_nN dX8_gives_0 rfl ?_
  refine r_getf f_X8_37_7 (by first | exact MAt.o (by assumption) | exact MAt.a1 (by assumption) | exact MAt.a2 (by assumption) | exact MAt.a3 (by assumption) | exact MAt.a4 (by assumption) | exact MAt.a5 (by assumption) | exact MAt.a6 (by assumption) | exact MAt.a7 (by assumption) | exact MAt.a8 (by assumption) | exact MAt.a9 (by assumption) | exact MAt.a10 (by assumption) | exact MAt.a11 (by assumption) | exact MAt.a12 (by assumption) | exact MAt.a13 (by assumption) | exact MAt.a14 (by assumption) | exact MAt.a15 (by assumption) | exact MAt.a16 (by assumption)) (by rfl) dX8_gives_1 ?_
  refine r_iconst (v := nI 0) dX8_gives_4 (by decide) ?_
  refine r_iload_n dX8_gives_5 rfl ?_
  first | refine r_iadd_n dX8_gives_6 ?_ | refine r_iadd dX8_gives_6 ?_
  rw [Nat.zero_add g]
  refine r_iald_n (by first | exact MAt.o (by assumption) | exact MAt.a1 (by assumption) | exact MAt.a2 (by assumption) | exact MAt.a3 (by assumption) | exact MAt.a4 (by assumption) | exact MAt.a5 (by assumption) | exact MAt.a6 (by assumption) | exact MAt.a7 (by assumption) | exact MAt.a8 (by assumption) | exact MAt.a9 (by assumption) | exact MAt.a10 (by assumption) | exact MAt.a11 (by assumption) | exact MAt.a12 (by assumption) | exact MAt.a13 (by assumption) | exact MAt.a14 (by assumption) | exact MAt.a15 (by assumption) | exact MAt.a16 (by assumption)) (by rfl) (by omega) (by omega) dX8_gives_7 ?_
  rw [sE_n (by omega)]
  refine r_iconst (v := nI 1) dX8_gives_8 (by decide) ?_
  first | refine r_icmp_eq_n (tgt := 20) dX8_gives_9 (by decide) (by omega) (by omega) (fun h9 => ?_) (fun h9 => ?_) | refine r_icmp_eq_pn (tgt := 20) dX8_gives_9 (by decide) (by omega) (by omega) (fun h9 => ?_) (fun h9 => ?_) | refine r_icmp_eq_pm (tgt := 20) dX8_gives_9 (by decide) (by omega) (fun h9 => ?_) (fun h9 => ?_) | refine r_icmp_eq (tgt := 20) dX8_gives_9 (by decide) (fun h9 => ?_) (fun h9 => ?_)
  rotate_left
  · first | refine r_aload_n dX8_gives_12 rfl ?_ | refine r_aload_nq dX8_gives_12 rfl ?_ | refine r_aload_nN dX8_gives_12 rfl ?_
    refine r_iconst (v := nI 3) dX8_gives_13 (by decide) ?_
    refine r_iload_n dX8_gives_14 rfl ?_
    refine r_iload_n dX8_gives_15 rfl ?_
    refine r_callV s_X8_188_v dX8_gives_16 (by first | exact MAt.o (by assumption) | exact MAt.a1 (by assumption) | exact MAt.a2 (by assumption) | exact MAt.a3 (by assumption) | exact MAt.a4 (by assumption) | exact MAt.a5 (by assumption) | exact MAt.a6 (by assumption) | exact MAt.a7 (by assumption) | exact MAt.a8 (by assumption) | exact MAt.a9 (by assumption) | exact MAt.a10 (by assumption) | exact MAt.a11 (by assumption) | exact MAt.a12 (by assumption) | exact MAt.a13 (by assumption) | exact MAt.a14 (by assumption) | exact MAt.a15 (by assumption) | exact MAt.a16 (by assumption)) (by rfl) rfl (Nat.le_of_ble_eq_true rfl) (m_errs h hb 3 (k + 1) (g + 1) (fun M hM => ?_))
    refine mK_r ?_
    refine r_iret rfl (by first | rfl | exact bI_nar _) dX8_gives_19 ?_
    exact hE3 h9 _ hM
  first | refine r_aload_n dX8_gives_20 rfl ?_ | refine r_aload_nq dX8_gives_20 rfl ?_ | refine r_aload_nN dX8_gives_20 rfl ?_
  refine r_iload_n dX8_gives_21 rfl ?_
  refine r_iconst (v := nI 0) dX8_gives_22 (by decide) ?_
  refine r_callV s_X8_191_v dX8_gives_23 (by first | exact MAt.o (by assumption) | exact MAt.a1 (by assumption) | exact MAt.a2 (by assumption) | exact MAt.a3 (by assumption) | exact MAt.a4 (by assumption) | exact MAt.a5 (by assumption) | exact MAt.a6 (by assumption) | exact MAt.a7 (by assumption) | exact MAt.a8 (by assumption) | exact MAt.a9 (by assumption) | exact MAt.a10 (by assumption) | exact MAt.a11 (by assumption) | exact MAt.a12 (by assumption) | exact MAt.a13 (by assumption) | exact MAt.a14 (by assumption) | exact MAt.a15 (by assumption) | exact MAt.a16 (by assumption)) (by rfl) rfl (Nat.le_of_ble_eq_true rfl) (m_ploughsOn h g false (by omega) hz ?_)
  refine mK_r ?_
  refine r_if_le_n (tgt := 37) dX8_gives_26 (by decide) (by omega) (fun h26 => ?_) (fun h26 => ?_)
  rotate_left
  · first | refine r_aload_n dX8_gives_29 rfl ?_ | refine r_aload_nq dX8_gives_29 rfl ?_ | refine r_aload_nN dX8_gives_29 rfl ?_
    refine r_iconst (v := nI 4) dX8_gives_30 (by decide) ?_
    refine r_iload_n dX8_gives_31 rfl ?_
    refine r_iload_n dX8_gives_32 rfl ?_
    refine r_callV s_X8_188_v dX8_gives_33 (by first | exact MAt.o (by assumption) | exact MAt.a1 (by assumption) | exact MAt.a2 (by assumption) | exact MAt.a3 (by assumption) | exact MAt.a4 (by assumption) | exact MAt.a5 (by assumption) | exact MAt.a6 (by assumption) | exact MAt.a7 (by assumption) | exact MAt.a8 (by assumption) | exact MAt.a9 (by assumption) | exact MAt.a10 (by assumption) | exact MAt.a11 (by assumption) | exact MAt.a12 (by assumption) | exact MAt.a13 (by assumption) | exact MAt.a14 (by assumption) | exact MAt.a15 (by assumption) | exact MAt.a16 (by assumption)) (by rfl) rfl (Nat.le_of_ble_eq_true rfl) (m_errs h hb 4 (k + 1) (g + 1) (fun M hM => ?_))
    refine mK_r ?_
    refine r_iret rfl (by first | rfl | exact bI_nar _) dX8_gives_36 ?_
    exact hE4 h9 h26 _ hM
  first | refine r_aload_n dX8_gives_37 rfl ?_ | refine r_aload_nq dX8_gives_37 rfl ?_ | refine r_aload_nN dX8_gives_37 rfl ?_
  refine r_getf f_X8_37_7 (by first | exact MAt.o (by assumption) | exact MAt.a1 (by assumption) | exact MAt.a2 (by assumption) | exact MAt.a3 (by assumption) | exact MAt.a4 (by assumption) | exact MAt.a5 (by assumption) | exact MAt.a6 (by assumption) | exact MAt.a7 (by assumption) | exact MAt.a8 (by assumption) | exact MAt.a9 (by assumption) | exact MAt.a10 (by assumption) | exact MAt.a11 (by assumption) | exact MAt.a12 (by assumption) | exact MAt.a13 (by assumption) | exact MAt.a14 (by assumption) | exact MAt.a15 (by assumption) | exact MAt.a16 (by assumption)) (by rfl) dX8_gives_38 ?_
  refine r_iconst (v := nI 0) dX8_gives_41 (by decide) ?_
  refine r_iload_n dX8_gives_42 rfl ?_
  first | refine r_iadd_n dX8_gives_43 ?_ | refine r_iadd dX8_gives_43 ?_
  rw [Nat.zero_add g]
  first | refine r_aload_n dX8_gives_44 rfl ?_ | refine r_aload_nq dX8_gives_44 rfl ?_ | refine r_aload_nN dX8_gives_44 rfl ?_
  refine r_getf f_X8_9_7 (by first | exact MAt.o (by assumption) | exact MAt.a1 (by assumption) | exact MAt.a2 (by assumption) | exact MAt.a3 (by assumption) | exact MAt.a4 (by assumption) | exact MAt.a5 (by assumption) | exact MAt.a6 (by assumption) | exact MAt.a7 (by assumption) | exact MAt.a8 (by assumption) | exact MAt.a9 (by assumption) | exact MAt.a10 (by assumption) | exact MAt.a11 (by assumption) | exact MAt.a12 (by assumption) | exact MAt.a13 (by assumption) | exact MAt.a14 (by assumption) | exact MAt.a15 (by assumption) | exact MAt.a16 (by assumption)) (by rfl) dX8_gives_45 ?_
  refine r_bipush (v := nI 21) dX8_gives_48 (by decide) ?_
  refine r_iload_n dX8_gives_50 rfl ?_
  first | refine r_iadd_n dX8_gives_51 ?_ | refine r_iadd dX8_gives_51 ?_
  refine r_iald_n (by first | exact MAt.o (by assumption) | exact MAt.a1 (by assumption) | exact MAt.a2 (by assumption) | exact MAt.a3 (by assumption) | exact MAt.a4 (by assumption) | exact MAt.a5 (by assumption) | exact MAt.a6 (by assumption) | exact MAt.a7 (by assumption) | exact MAt.a8 (by assumption) | exact MAt.a9 (by assumption) | exact MAt.a10 (by assumption) | exact MAt.a11 (by assumption) | exact MAt.a12 (by assumption) | exact MAt.a13 (by assumption) | exact MAt.a14 (by assumption) | exact MAt.a15 (by assumption) | exact MAt.a16 (by assumption)) (by rfl) (by omega) (by omega) dX8_gives_52 ?_
  refine r_iconst (v := nI 2) dX8_gives_53 (by decide) ?_
  first | refine r_icmp_ne_n (tgt := 61) dX8_gives_54 (by decide) (by omega) (by omega) (fun h54 => ?_) (fun h54 => ?_) | refine r_icmp_ne_pn (tgt := 61) dX8_gives_54 (by decide) (by omega) (by omega) (fun h54 => ?_) (fun h54 => ?_) | refine r_icmp_ne_pm (tgt := 61) dX8_gives_54 (by decide) (by omega) (fun h54 => ?_) (fun h54 => ?_) | refine r_icmp_ne (tgt := 61) dX8_gives_54 (by decide) (fun h54 => ?_) (fun h54 => ?_)
  · refine r_iconst (v := nI 0) dX8_gives_61 (by decide) ?_
    refine r_iast_n (by first | exact MAt.o (by assumption) | exact MAt.a1 (by assumption) | exact MAt.a2 (by assumption) | exact MAt.a3 (by assumption) | exact MAt.a4 (by assumption) | exact MAt.a5 (by assumption) | exact MAt.a6 (by assumption) | exact MAt.a7 (by assumption) | exact MAt.a8 (by assumption) | exact MAt.a9 (by assumption) | exact MAt.a10 (by assumption) | exact MAt.a11 (by assumption) | exact MAt.a12 (by assumption) | exact MAt.a13 (by assumption) | exact MAt.a14 (by assumption) | exact MAt.a15 (by assumption) | exact MAt.a16 (by assumption)) (by rfl) (by omega) (by omega) (by omega) dX8_gives_62 ?_
    refine MAt.g10 0 (by assumption) (by first | (refine Eq.trans (show _ = nI (0) from rfl) (sE_n ?_).symm; omega) | (refine Eq.trans (show _ = pI (0) from rfl) (sE_p ?_).symm; omega)) (fun M hM => ?_)
    refine r_iconst (v := nI 1) dX8_gives_63 (by decide) ?_
    refine r_iret rfl (by first | rfl | exact bI_nar _) dX8_gives_64 ?_
    refine hN h9 h26 _ ?_
    rw [if_neg h54]; exact hM
  · refine r_iconst (v := nI 1) dX8_gives_57 (by decide) ?_
    refine r_goto (tgt := 62) dX8_gives_58 (by decide) ?_
    refine r_iast_n (by first | exact MAt.o (by assumption) | exact MAt.a1 (by assumption) | exact MAt.a2 (by assumption) | exact MAt.a3 (by assumption) | exact MAt.a4 (by assumption) | exact MAt.a5 (by assumption) | exact MAt.a6 (by assumption) | exact MAt.a7 (by assumption) | exact MAt.a8 (by assumption) | exact MAt.a9 (by assumption) | exact MAt.a10 (by assumption) | exact MAt.a11 (by assumption) | exact MAt.a12 (by assumption) | exact MAt.a13 (by assumption) | exact MAt.a14 (by assumption) | exact MAt.a15 (by assumption) | exact MAt.a16 (by assumption)) (by rfl) (by omega) (by omega) (by omega) dX8_gives_62 ?_
    refine MAt.g10 1 (by assumption) (by first | (refine Eq.trans (show _ = nI (1) from rfl) (sE_n ?_).symm; omega) | (refine Eq.trans (show _ = pI (1) from rfl) (sE_p ?_).symm; omega)) (fun M hM => ?_)
    refine r_iconst (v := nI 1) dX8_gives_63 (by decide) ?_
    refine r_iret rfl (by first | rfl | exact bI_nar _) dX8_gives_64 ?_
    refine hN h9 h26 _ ?_
    rw [if_pos h54]; exact hM
theorem m_puts (h : MAt B M m F D A) (hb : mGb G ≤ m) (k p g : Nat) (w : Bool) (hp : p < 5) (hg : g < 8) (hz : ∀ j, j < 31 → A 10 j ≤ 30)
   (hE3 : A 10 g ≠ 1 → ∀ M, MAt B M m (fU (fU (fU F 19 3) 20 (k + 1)) 21 (g + 1)) D A → Q (.inl (some (.int (bI false)))) M t u)
   (hE4 : A 10 g = 1 → 0 < zOn (A 10) g (!w) → ∀ M, MAt B M m (fU (fU (fU F 19 4) 20 (k + 1)) 21 (g + 1)) D A → Q (.inl (some (.int (bI false)))) M t u)
   (hE6 : A 10 g = 1 → zOn (A 10) g (!w) = 0 → 0 < A 10 (16 + p) → ∀ M, MAt B M m (fU (fU (fU F 19 6) 20 (k + 1)) 21 (p + 1)) D A → Q (.inl (some (.int (bI false)))) M t u)
   (hN : A 10 g = 1 → zOn (A 10) g (!w) = 0 → A 10 (16 + p) = 0 → ∀ M, MAt B M m F D (fA A 10 (zPut (A 10) p g (F 18) w)) → Q (.inl (some (.int (bI true)))) M t u) : mMet G (d + 1) zX8_puts [.ref m, .int (nI k), .int (nI p), .int (nI g), .int (bI w)] M t u Q := by
  refine m_intro (by decide +kernel) ⟨Nat.le_of_ble_eq_true rfl, Nat.le_of_ble_eq_true rfl⟩ ?_
  show mW G _ _ 0 [some (.ref m), some (.int (nI k)), some (.int (nI p)), some (.int (nI g)), some (.int (bI w))] [] _ _ _ _
  have b1 := hz g (by omega)
  have b3 := hz (16 + p) (by omega)
  have b2 : zOn (A 10) g (!w) ≤ 5 := cntF_le _ 5
  first | refine r_aload_n dX8_puts_0 rfl ?_ | refine r_aload_nq dX8_puts_0 rfl ?_ | refine r_aload_nN dX8_puts_0 rfl ?_
  refine r_getf f_X8_37_7 (by first | exact MAt.o (by assumption) | exact MAt.a1 (by assumption) | exact MAt.a2 (by assumption) | exact MAt.a3 (by assumption) | exact MAt.a4 (by assumption) | exact MAt.a5 (by assumption) | exact MAt.a6 (by assumption) | exact MAt.a7 (by assumption) | exact MAt.a8 (by assumption) | exact MAt.a9 (by assumption) | exact MAt.a10 (by assumption) | exact MAt.a11 (by assumption) | exact MAt.a12 (by assumption) | exact MAt.a13 (by assumption) | exact MAt.a14 (by assumption) | exact MAt.a15 (by assumption) | exact MAt.a16 (by assumption)) (by rfl) dX8_puts_1 ?_
  refine r_iconst (v := nI 0) dX8_puts_4 (by decide) ?_
  refine r_iload_n dX8_puts_5 rfl ?_
  first | refine r_iadd_n dX8_puts_6 ?_ | refine r_iadd dX8_puts_6 ?_
  rw [Nat.zero_add g]
  refine r_iald_n (by first | exact MAt.o (by assumption) | exact MAt.a1 (by assumption) | exact MAt.a2 (by assumption) | exact MAt.a3 (by assumption) | exact MAt.a4 (by assumption) | exact MAt.a5 (by assumption) | exact MAt.a6 (by assumption) | exact MAt.a7 (by assumption) | exact MAt.a8 (by assumption) | exact MAt.a9 (by assumption) | exact MAt.a10 (by assumption) | exact MAt.a11 (by assumption) | exact MAt.a12 (by assumption) | exact MAt.a13 (by assumption) | exact MAt.a14 (by assumption) | exact MAt.a15 (by assumption) | exact MAt.a16 (by assumption)) (by rfl) (by omega) (by omega) dX8_puts_7 ?_
  rw [sE_n (by omega)]
  refine r_iconst (v := nI 1) dX8_puts_8 (by decide) ?_
  first | refine r_icmp_eq_n (tgt := 20) dX8_puts_9 (by decide) (by omega) (by omega) (fun h9 => ?_) (fun h9 => ?_) | refine r_icmp_eq_pn (tgt := 20) dX8_puts_9 (by decide) (by omega) (by omega) (fun h9 => ?_) (fun h9 => ?_) | refine r_icmp_eq_pm (tgt := 20) dX8_puts_9 (by decide) (by omega) (fun h9 => ?_) (fun h9 => ?_) | refine r_icmp_eq (tgt := 20) dX8_puts_9 (by decide) (fun h9 => ?_) (fun h9 => ?_)
  rotate_left
  · first | refine r_aload_n dX8_puts_12 rfl ?_ | refine r_aload_nq dX8_puts_12 rfl ?_ | refine r_aload_nN dX8_puts_12 rfl ?_
    refine r_iconst (v := nI 3) dX8_puts_13 (by decide) ?_
    refine r_iload_n dX8_puts_14 rfl ?_
    refine r_iload_n dX8_puts_15 rfl ?_
    refine r_callV s_X8_188_v dX8_puts_16 (by first | exact MAt.o (by assumption) | exact MAt.a1 (by assumption) | exact MAt.a2 (by assumption) | exact MAt.a3 (by assumption) | exact MAt.a4 (by assumption) | exact MAt.a5 (by assumption) | exact MAt.a6 (by assumption) | exact MAt.a7 (by assumption) | exact MAt.a8 (by assumption) | exact MAt.a9 (by assumption) | exact MAt.a10 (by assumption) | exact MAt.a11 (by assumption) | exact MAt.a12 (by assumption) | exact MAt.a13 (by assumption) | exact MAt.a14 (by assumption) | exact MAt.a15 (by assumption) | exact MAt.a16 (by assumption)) (by rfl) rfl (Nat.le_of_ble_eq_true rfl) (m_errs h hb 3 (k + 1) (g + 1) (fun M hM => ?_))
    refine mK_r ?_
    refine r_iret rfl (by first | rfl | exact bI_nar _) dX8_puts_19 ?_
    exact hE3 h9 _ hM
  have nx : mW G zX8_puts (d + 1) 32 [some (.ref m), some (.int (nI k)), some (.int (nI p)), some (.int (nI g)), some (.int (bI w))] [.int (bI (!w)), .int (nI g), .ref m] M t u Q := by
    refine r_callV s_X8_191_v dX8_puts_32 (by first | exact MAt.o (by assumption) | exact MAt.a1 (by assumption) | exact MAt.a2 (by assumption) | exact MAt.a3 (by assumption) | exact MAt.a4 (by assumption) | exact MAt.a5 (by assumption) | exact MAt.a6 (by assumption) | exact MAt.a7 (by assumption) | exact MAt.a8 (by assumption) | exact MAt.a9 (by assumption) | exact MAt.a10 (by assumption) | exact MAt.a11 (by assumption) | exact MAt.a12 (by assumption) | exact MAt.a13 (by assumption) | exact MAt.a14 (by assumption) | exact MAt.a15 (by assumption) | exact MAt.a16 (by assumption)) (by rfl) rfl (Nat.le_of_ble_eq_true rfl) (m_ploughsOn h g (!w) (by omega) hz ?_)
    refine mK_r ?_
    refine r_if_le_n (tgt := 46) dX8_puts_35 (by decide) (by omega) (fun h35 => ?_) (fun h35 => ?_)
    rotate_left
    · first | refine r_aload_n dX8_puts_38 rfl ?_ | refine r_aload_nq dX8_puts_38 rfl ?_ | refine r_aload_nN dX8_puts_38 rfl ?_
      refine r_iconst (v := nI 4) dX8_puts_39 (by decide) ?_
      refine r_iload_n dX8_puts_40 rfl ?_
      refine r_iload_n dX8_puts_41 rfl ?_
      refine r_callV s_X8_188_v dX8_puts_42 (by first | exact MAt.o (by assumption) | exact MAt.a1 (by assumption) | exact MAt.a2 (by assumption) | exact MAt.a3 (by assumption) | exact MAt.a4 (by assumption) | exact MAt.a5 (by assumption) | exact MAt.a6 (by assumption) | exact MAt.a7 (by assumption) | exact MAt.a8 (by assumption) | exact MAt.a9 (by assumption) | exact MAt.a10 (by assumption) | exact MAt.a11 (by assumption) | exact MAt.a12 (by assumption) | exact MAt.a13 (by assumption) | exact MAt.a14 (by assumption) | exact MAt.a15 (by assumption) | exact MAt.a16 (by assumption)) (by rfl) rfl (Nat.le_of_ble_eq_true rfl) (m_errs h hb 4 (k + 1) (g + 1) (fun M hM => ?_))
      refine mK_r ?_
      refine r_iret rfl (by first | rfl | exact bI_nar _) dX8_puts_45 ?_
      exact hE4 h9 h35 _ hM
    first | refine r_aload_n dX8_puts_46 rfl ?_ | refine r_aload_nq dX8_puts_46 rfl ?_ | refine r_aload_nN dX8_puts_46 rfl ?_
    refine r_getf f_X8_37_7 (by first | exact MAt.o (by assumption) | exact MAt.a1 (by assumption) | exact MAt.a2 (by assumption) | exact MAt.a3 (by assumption) | exact MAt.a4 (by assumption) | exact MAt.a5 (by assumption) | exact MAt.a6 (by assumption) | exact MAt.a7 (by assumption) | exact MAt.a8 (by assumption) | exact MAt.a9 (by assumption) | exact MAt.a10 (by assumption) | exact MAt.a11 (by assumption) | exact MAt.a12 (by assumption) | exact MAt.a13 (by assumption) | exact MAt.a14 (by assumption) | exact MAt.a15 (by assumption) | exact MAt.a16 (by assumption)) (by rfl) dX8_puts_47 ?_
    refine r_bipush (v := nI 16) dX8_puts_50 (by decide) ?_
    refine r_iload_n dX8_puts_52 rfl ?_
    first | refine r_iadd_n dX8_puts_53 ?_ | refine r_iadd dX8_puts_53 ?_
    refine r_iald_n (by first | exact MAt.o (by assumption) | exact MAt.a1 (by assumption) | exact MAt.a2 (by assumption) | exact MAt.a3 (by assumption) | exact MAt.a4 (by assumption) | exact MAt.a5 (by assumption) | exact MAt.a6 (by assumption) | exact MAt.a7 (by assumption) | exact MAt.a8 (by assumption) | exact MAt.a9 (by assumption) | exact MAt.a10 (by assumption) | exact MAt.a11 (by assumption) | exact MAt.a12 (by assumption) | exact MAt.a13 (by assumption) | exact MAt.a14 (by assumption) | exact MAt.a15 (by assumption) | exact MAt.a16 (by assumption)) (by rfl) (by omega) (by omega) dX8_puts_54 ?_
    rw [sE_p (by omega)]
    first | refine r_if_lt_p (tgt := 67) dX8_puts_55 (by decide) (by omega) (fun h55 => ?_) (fun h55 => ?_) | refine r_if_lt_n (tgt := 67) dX8_puts_55 (by decide) (by omega) ?_ | refine r_if_lt (tgt := 67) dX8_puts_55 (by decide) (fun h55 => ?_) (fun h55 => ?_)
    · have fin : ∀ M x, x = (if w = true then 1 else 0) → MAt B M m F D (fA A 10 (fU (A 10) (16 + p) (g + 1))) → mW G zX8_puts (d + 1) 95 [some (.ref m), some (.int (nI k)), some (.int (nI p)), some (.int (nI g)), some (.int (bI w))] [.int (nI x), .int (nI (21 + p)), .ref (m + 10)] M t u Q := by
        intro M x hx hM
        refine r_iast_n (by first | exact MAt.o (by assumption) | exact MAt.a1 (by assumption) | exact MAt.a2 (by assumption) | exact MAt.a3 (by assumption) | exact MAt.a4 (by assumption) | exact MAt.a5 (by assumption) | exact MAt.a6 (by assumption) | exact MAt.a7 (by assumption) | exact MAt.a8 (by assumption) | exact MAt.a9 (by assumption) | exact MAt.a10 (by assumption) | exact MAt.a11 (by assumption) | exact MAt.a12 (by assumption) | exact MAt.a13 (by assumption) | exact MAt.a14 (by assumption) | exact MAt.a15 (by assumption) | exact MAt.a16 (by assumption)) (by rfl) (by omega) (by omega) (by omega) dX8_puts_95 ?_
        refine MAt.g10 x (by assumption) (by first | (refine Eq.trans (show _ = nI (x) from rfl) (sE_n ?_).symm; omega) | (refine Eq.trans (show _ = pI (x) from rfl) (sE_p ?_).symm; omega)) (fun M hM => ?_)
        first | refine r_aload_n dX8_puts_96 rfl ?_ | refine r_aload_nq dX8_puts_96 rfl ?_ | refine r_aload_nN dX8_puts_96 rfl ?_
        refine r_getf f_X8_37_7 (by first | exact MAt.o (by assumption) | exact MAt.a1 (by assumption) | exact MAt.a2 (by assumption) | exact MAt.a3 (by assumption) | exact MAt.a4 (by assumption) | exact MAt.a5 (by assumption) | exact MAt.a6 (by assumption) | exact MAt.a7 (by assumption) | exact MAt.a8 (by assumption) | exact MAt.a9 (by assumption) | exact MAt.a10 (by assumption) | exact MAt.a11 (by assumption) | exact MAt.a12 (by assumption) | exact MAt.a13 (by assumption) | exact MAt.a14 (by assumption) | exact MAt.a15 (by assumption) | exact MAt.a16 (by assumption)) (by rfl) dX8_puts_97 ?_
        refine r_bipush (v := nI 26) dX8_puts_100 (by decide) ?_
        refine r_iload_n dX8_puts_102 rfl ?_
        first | refine r_iadd_n dX8_puts_103 ?_ | refine r_iadd dX8_puts_103 ?_
        first | refine r_aload_n dX8_puts_104 rfl ?_ | refine r_aload_nq dX8_puts_104 rfl ?_ | refine r_aload_nN dX8_puts_104 rfl ?_
        refine r_getf f_X8_173_7 (by first | exact MAt.o (by assumption) | exact MAt.a1 (by assumption) | exact MAt.a2 (by assumption) | exact MAt.a3 (by assumption) | exact MAt.a4 (by assumption) | exact MAt.a5 (by assumption) | exact MAt.a6 (by assumption) | exact MAt.a7 (by assumption) | exact MAt.a8 (by assumption) | exact MAt.a9 (by assumption) | exact MAt.a10 (by assumption) | exact MAt.a11 (by assumption) | exact MAt.a12 (by assumption) | exact MAt.a13 (by assumption) | exact MAt.a14 (by assumption) | exact MAt.a15 (by assumption) | exact MAt.a16 (by assumption)) (by rfl) dX8_puts_105 ?_
        refine r_iast_n (by first | exact MAt.o (by assumption) | exact MAt.a1 (by assumption) | exact MAt.a2 (by assumption) | exact MAt.a3 (by assumption) | exact MAt.a4 (by assumption) | exact MAt.a5 (by assumption) | exact MAt.a6 (by assumption) | exact MAt.a7 (by assumption) | exact MAt.a8 (by assumption) | exact MAt.a9 (by assumption) | exact MAt.a10 (by assumption) | exact MAt.a11 (by assumption) | exact MAt.a12 (by assumption) | exact MAt.a13 (by assumption) | exact MAt.a14 (by assumption) | exact MAt.a15 (by assumption) | exact MAt.a16 (by assumption)) (by rfl) (by omega) (by omega) (by omega) dX8_puts_108 ?_
        refine MAt.g10 (F 18) (by assumption) (by first | (refine Eq.trans (show _ = nI ((F 18)) from rfl) (sE_n ?_).symm; omega) | (refine Eq.trans (show _ = pI ((F 18)) from rfl) (sE_p ?_).symm; omega)) (fun M hM => ?_)
        refine r_iconst (v := nI 1) dX8_puts_109 (by decide) ?_
        refine r_iret rfl (by first | rfl | exact bI_nar _) dX8_puts_110 ?_
        refine hN h9 h35 h55 _ ?_
        have e : fA (fA (fA A 10 (fU (A 10) (16 + p) (g + 1))) 10 (fU (fA A 10 (fU (A 10) (16 + p) (g + 1)) 10) (21 + p) x)) 10 (fU (fA (fA A 10 (fU (A 10) (16 + p) (g + 1))) 10 (fU (fA A 10 (fU (A 10) (16 + p) (g + 1)) 10) (21 + p) x) 10) (26 + p) (F 18)) = fA A 10 (zPut (A 10) p g (F 18) w) := by
          rw [fA_eq, fA_eq, hx]; funext q; unfold fA zPut; split <;> rfl
        rw [← e]; exact hM
      first | refine r_aload_n dX8_puts_67 rfl ?_ | refine r_aload_nq dX8_puts_67 rfl ?_ | refine r_aload_nN dX8_puts_67 rfl ?_
      refine r_getf f_X8_37_7 (by first | exact MAt.o (by assumption) | exact MAt.a1 (by assumption) | exact MAt.a2 (by assumption) | exact MAt.a3 (by assumption) | exact MAt.a4 (by assumption) | exact MAt.a5 (by assumption) | exact MAt.a6 (by assumption) | exact MAt.a7 (by assumption) | exact MAt.a8 (by assumption) | exact MAt.a9 (by assumption) | exact MAt.a10 (by assumption) | exact MAt.a11 (by assumption) | exact MAt.a12 (by assumption) | exact MAt.a13 (by assumption) | exact MAt.a14 (by assumption) | exact MAt.a15 (by assumption) | exact MAt.a16 (by assumption)) (by rfl) dX8_puts_68 ?_
      refine r_bipush (v := nI 16) dX8_puts_71 (by decide) ?_
      refine r_iload_n dX8_puts_73 rfl ?_
      first | refine r_iadd_n dX8_puts_74 ?_ | refine r_iadd dX8_puts_74 ?_
      refine r_iload_n dX8_puts_75 rfl ?_
      refine r_iast_n (by first | exact MAt.o (by assumption) | exact MAt.a1 (by assumption) | exact MAt.a2 (by assumption) | exact MAt.a3 (by assumption) | exact MAt.a4 (by assumption) | exact MAt.a5 (by assumption) | exact MAt.a6 (by assumption) | exact MAt.a7 (by assumption) | exact MAt.a8 (by assumption) | exact MAt.a9 (by assumption) | exact MAt.a10 (by assumption) | exact MAt.a11 (by assumption) | exact MAt.a12 (by assumption) | exact MAt.a13 (by assumption) | exact MAt.a14 (by assumption) | exact MAt.a15 (by assumption) | exact MAt.a16 (by assumption)) (by rfl) (by omega) (by omega) (by omega) dX8_puts_76 ?_
      refine MAt.g10 (g + 1) (by assumption) (by first | (refine Eq.trans (show _ = nI ((g + 1)) from rfl) (sE_n ?_).symm; omega) | (refine Eq.trans (show _ = pI ((g + 1)) from rfl) (sE_p ?_).symm; omega)) (fun M hM => ?_)
      first | refine r_aload_n dX8_puts_77 rfl ?_ | refine r_aload_nq dX8_puts_77 rfl ?_ | refine r_aload_nN dX8_puts_77 rfl ?_
      refine r_getf f_X8_37_7 (by first | exact MAt.o (by assumption) | exact MAt.a1 (by assumption) | exact MAt.a2 (by assumption) | exact MAt.a3 (by assumption) | exact MAt.a4 (by assumption) | exact MAt.a5 (by assumption) | exact MAt.a6 (by assumption) | exact MAt.a7 (by assumption) | exact MAt.a8 (by assumption) | exact MAt.a9 (by assumption) | exact MAt.a10 (by assumption) | exact MAt.a11 (by assumption) | exact MAt.a12 (by assumption) | exact MAt.a13 (by assumption) | exact MAt.a14 (by assumption) | exact MAt.a15 (by assumption) | exact MAt.a16 (by assumption)) (by rfl) dX8_puts_78 ?_
      refine r_bipush (v := nI 21) dX8_puts_81 (by decide) ?_
      refine r_iload_n dX8_puts_83 rfl ?_
      first | refine r_iadd_n dX8_puts_84 ?_ | refine r_iadd dX8_puts_84 ?_
      refine r_iload dX8_puts_85 rfl ?_
      refine r_if_eq_b (tgt := 94) dX8_puts_87 (by decide) (fun h87 => ?_) (fun h87 => ?_)
      · refine r_iconst (v := nI 0) dX8_puts_94 (by decide) ?_
        exact fin _ 0 (by rw [h87]; rfl) hM
      · refine r_iconst (v := nI 1) dX8_puts_90 (by decide) ?_
        refine r_goto (tgt := 95) dX8_puts_91 (by decide) ?_
        exact fin _ 1 (by rw [h87]; rfl) hM
    · first | refine r_aload_n dX8_puts_58 rfl ?_ | refine r_aload_nq dX8_puts_58 rfl ?_ | refine r_aload_nN dX8_puts_58 rfl ?_
      refine r_bipush (v := nI 6) dX8_puts_59 (by decide) ?_
      refine r_iload_n dX8_puts_61 rfl ?_
      refine r_iload_n dX8_puts_62 rfl ?_
      refine r_callV s_X8_188_v dX8_puts_63 (by first | exact MAt.o (by assumption) | exact MAt.a1 (by assumption) | exact MAt.a2 (by assumption) | exact MAt.a3 (by assumption) | exact MAt.a4 (by assumption) | exact MAt.a5 (by assumption) | exact MAt.a6 (by assumption) | exact MAt.a7 (by assumption) | exact MAt.a8 (by assumption) | exact MAt.a9 (by assumption) | exact MAt.a10 (by assumption) | exact MAt.a11 (by assumption) | exact MAt.a12 (by assumption) | exact MAt.a13 (by assumption) | exact MAt.a14 (by assumption) | exact MAt.a15 (by assumption) | exact MAt.a16 (by assumption)) (by rfl) rfl (Nat.le_of_ble_eq_true rfl) (m_errs h hb 6 (k + 1) (p + 1) (fun M hM => ?_))
      refine mK_r ?_
      refine r_iret rfl (by first | rfl | exact bI_nar _) dX8_puts_66 ?_
      exact hE6 h9 h35 h55 _ hM
  first | refine r_aload_n dX8_puts_20 rfl ?_ | refine r_aload_nq dX8_puts_20 rfl ?_ | refine r_aload_nN dX8_puts_20 rfl ?_
  refine r_iload_n dX8_puts_21 rfl ?_
  refine r_iload dX8_puts_22 rfl ?_
  refine r_if_ne_b (tgt := 31) dX8_puts_24 (by decide) (fun h24 => ?_) (fun h24 => ?_)
  · refine r_iconst (v := nI 0) dX8_puts_31 (by decide) ?_
    rw [h24] at nx ⊢; exact nx
  · refine r_iconst (v := nI 1) dX8_puts_27 (by decide) ?_
    refine r_goto (tgt := 32) dX8_puts_28 (by decide) ?_
    rw [h24] at nx ⊢; exact nx
theorem m_meets (h : MAt B M m F D A) (hb : mGb G ≤ m) (k : Nat) (f : ZR) (hd1 : F 18 < 24) (hm : A 1 0 ≤ 8) (hk : ∀ g, g < A 1 0 → A 1 (21 + g) < 3) (hz : ∀ j, j < 31 → A 10 j ≤ 30) (hf : ∀ j, j < 31 → A 12 (31 * (F 18 + 1) + j) = f j ∧ f j ≤ 30)
   (hE : 0 < zUn (A 1 0) (fun g => A 1 (21 + g)) (A 10) f → ∀ M, MAt B M m (fU (fU (fU F 19 8) 20 (k + 1)) 21 (zUn (A 1 0) (fun g => A 1 (21 + g)) (A 10) f)) D A → Q (.inl (some (.int (bI false)))) M t u)
   (hN : zUn (A 1 0) (fun g => A 1 (21 + g)) (A 10) f = 0 → ∀ M A', MAt B M m F D A' → (∀ i, i ≠ 10 → A' i = A i) → (∀ j, j < 31 → A' 10 j = zMeet (A 1 0) (A 10) f j) → Q (.inl (some (.int (bI true)))) M t u) : mMet G (d + 1) zX8_meets [.ref m, .int (nI k)] M t u Q := by
  refine m_intro (by decide +kernel) ⟨Nat.le_of_ble_eq_true rfl, Nat.le_of_ble_eq_true rfl⟩ ?_
  show mW G _ _ 0 [some (.ref m), some (.int (nI k)), none, none, none, none] [] _ _ _ _
  have loop2 : ∀ n i M A' v3 v5, i + n = A 1 0 → MAt B M m F D A' → (∀ i, i ≠ 10 → A' i = A i) → (∀ j, j < 31 → A' 10 j = if j < i ∨ (8 ≤ j ∧ j < 8 + i) then zMeet (A 1 0) (A 10) f j else A 10 j) → zUn (A 1 0) (fun g => A 1 (21 + g)) (A 10) f = 0 → mW G zX8_meets (d + 1) 92 [some (.ref m), some (.int (nI k)), some (.int (nI (31 * (F 18 + 1)))), some (.int v3), some (.int (nI i)), v5] [] M t u Q := by
    intro n
    induction n with
    | zero =>
      intro i M A' v3 v5 hi hM ha hj0 hl
      have a1 : A' 1 0 = A 1 0 := by rw [ha 1 (by decide)]
      refine r_iload dX8_meets_92 rfl ?_
      first | refine r_aload_n dX8_meets_94 rfl ?_ | refine r_aload_nq dX8_meets_94 rfl ?_ | refine r_aload_nN dX8_meets_94 rfl ?_
      refine r_getf f_X8_9_7 (by first | exact MAt.o (by assumption) | exact MAt.a1 (by assumption) | exact MAt.a2 (by assumption) | exact MAt.a3 (by assumption) | exact MAt.a4 (by assumption) | exact MAt.a5 (by assumption) | exact MAt.a6 (by assumption) | exact MAt.a7 (by assumption) | exact MAt.a8 (by assumption) | exact MAt.a9 (by assumption) | exact MAt.a10 (by assumption) | exact MAt.a11 (by assumption) | exact MAt.a12 (by assumption) | exact MAt.a13 (by assumption) | exact MAt.a14 (by assumption) | exact MAt.a15 (by assumption) | exact MAt.a16 (by assumption)) (by rfl) dX8_meets_95 ?_
      refine r_iconst (v := nI 0) dX8_meets_98 (by decide) ?_
      refine r_iald_n (by first | exact MAt.o (by assumption) | exact MAt.a1 (by assumption) | exact MAt.a2 (by assumption) | exact MAt.a3 (by assumption) | exact MAt.a4 (by assumption) | exact MAt.a5 (by assumption) | exact MAt.a6 (by assumption) | exact MAt.a7 (by assumption) | exact MAt.a8 (by assumption) | exact MAt.a9 (by assumption) | exact MAt.a10 (by assumption) | exact MAt.a11 (by assumption) | exact MAt.a12 (by assumption) | exact MAt.a13 (by assumption) | exact MAt.a14 (by assumption) | exact MAt.a15 (by assumption) | exact MAt.a16 (by assumption)) (by rfl) (by omega) (by omega) dX8_meets_99 ?_
      first | refine r_icmp_ge_n (tgt := 193) dX8_meets_100 (by decide) (by omega) (by omega) (fun h100 => ?_) (fun h100 => by exfalso; omega) | refine r_icmp_ge (tgt := 193) dX8_meets_100 (by decide) (fun h100 => ?_) (fun h100 => by exfalso; omega)
      refine r_iconst (v := nI 1) dX8_meets_193 (by decide) ?_
      refine r_iret rfl (by first | rfl | exact bI_nar _) dX8_meets_194 ?_
      refine hN hl _ _ hM ha (fun j hj => ?_)
      rw [hj0 j hj]
      split
      · rfl
      · rename_i hh
        unfold zMeet
        rw [if_neg (by omega), if_neg (by omega)]
    | succ n ih =>
      intro i M A' v3 v5 hi hM ha hj0 hl
      have a1 : A' 1 0 = A 1 0 := by rw [ha 1 (by decide)]
      have b1 := hj0 (8 + i) (by omega)
      rw [if_neg (by omega)] at b1
      have b2 := hj0 i (by omega)
      rw [if_neg (by omega)] at b2
      have z1 := hz (8 + i) (by omega)
      have z2 := hz i (by omega)
      obtain ⟨f1, f2⟩ := hf i (by omega)
      obtain ⟨f3, f4⟩ := hf (8 + i) (by omega)
      have a12 : A' 12 (31 * (F 18 + 1) + i) = f i := by rw [ha 12 (by decide)]; exact f1
      have a128 : A' 12 (31 * (F 18 + 1) + 8 + i) = f (8 + i) := by rw [ha 12 (by decide), Nat.add_assoc]; exact f3
      have nx : ∀ M A'' v5, MAt B M m F D A'' → (∀ i, i ≠ 10 → A'' i = A i) → (∀ j, j < 31 → j ≠ i → j ≠ 8 + i → A'' 10 j = A' 10 j) → A'' 10 i = zMeet (A 1 0) (A 10) f i → A'' 10 (8 + i) = zMeet (A 1 0) (A 10) f (8 + i) → mW G zX8_meets (d + 1) 187 [some (.ref m), some (.int (nI k)), some (.int (nI (31 * (F 18 + 1)))), some (.int v3), some (.int (nI i)), v5] [] M t u Q := by
        intro M A'' v5 hM ha' hjo h1 h2
        first | refine r_iinc_n 1 dX8_meets_187 rfl (by decide) ?_ | refine r_iinc dX8_meets_187 rfl rfl (by decide) ?_
        simp only [mst1, mclr]
        refine r_goto (tgt := 92) dX8_meets_190 (by decide) ?_
        refine ih (i + 1) M A'' v3 v5 (by omega) hM ha' (fun j hj => ?_) hl
        by_cases e1 : j = i
        · subst e1; rw [if_pos (by omega)]; exact h1
        · by_cases e2 : j = 8 + i
          · subst e2; rw [if_pos (by omega)]; exact h2
          · rw [hjo j hj e1 e2, hj0 j hj]
            by_cases hh : j < i ∨ (8 ≤ j ∧ j < 8 + i)
            · rw [if_pos hh, if_pos (by omega)]
            · rw [if_neg hh, if_neg (by omega)]
      refine r_iload dX8_meets_92 rfl ?_
      first | refine r_aload_n dX8_meets_94 rfl ?_ | refine r_aload_nq dX8_meets_94 rfl ?_ | refine r_aload_nN dX8_meets_94 rfl ?_
      refine r_getf f_X8_9_7 (by first | exact MAt.o (by assumption) | exact MAt.a1 (by assumption) | exact MAt.a2 (by assumption) | exact MAt.a3 (by assumption) | exact MAt.a4 (by assumption) | exact MAt.a5 (by assumption) | exact MAt.a6 (by assumption) | exact MAt.a7 (by assumption) | exact MAt.a8 (by assumption) | exact MAt.a9 (by assumption) | exact MAt.a10 (by assumption) | exact MAt.a11 (by assumption) | exact MAt.a12 (by assumption) | exact MAt.a13 (by assumption) | exact MAt.a14 (by assumption) | exact MAt.a15 (by assumption) | exact MAt.a16 (by assumption)) (by rfl) dX8_meets_95 ?_
      refine r_iconst (v := nI 0) dX8_meets_98 (by decide) ?_
      refine r_iald_n (by first | exact MAt.o (by assumption) | exact MAt.a1 (by assumption) | exact MAt.a2 (by assumption) | exact MAt.a3 (by assumption) | exact MAt.a4 (by assumption) | exact MAt.a5 (by assumption) | exact MAt.a6 (by assumption) | exact MAt.a7 (by assumption) | exact MAt.a8 (by assumption) | exact MAt.a9 (by assumption) | exact MAt.a10 (by assumption) | exact MAt.a11 (by assumption) | exact MAt.a12 (by assumption) | exact MAt.a13 (by assumption) | exact MAt.a14 (by assumption) | exact MAt.a15 (by assumption) | exact MAt.a16 (by assumption)) (by rfl) (by omega) (by omega) dX8_meets_99 ?_
      first | refine r_icmp_ge_n (tgt := 193) dX8_meets_100 (by decide) (by omega) (by omega) (fun h100 => by exfalso; omega) (fun h100 => ?_) | refine r_icmp_ge (tgt := 193) dX8_meets_100 (by decide) (fun h100 => by exfalso; omega) (fun h100 => ?_)
      first | refine r_aload_n dX8_meets_103 rfl ?_ | refine r_aload_nq dX8_meets_103 rfl ?_ | refine r_aload_nN dX8_meets_103 rfl ?_
      refine r_getf f_X8_43_7 (by first | exact MAt.o (by assumption) | exact MAt.a1 (by assumption) | exact MAt.a2 (by assumption) | exact MAt.a3 (by assumption) | exact MAt.a4 (by assumption) | exact MAt.a5 (by assumption) | exact MAt.a6 (by assumption) | exact MAt.a7 (by assumption) | exact MAt.a8 (by assumption) | exact MAt.a9 (by assumption) | exact MAt.a10 (by assumption) | exact MAt.a11 (by assumption) | exact MAt.a12 (by assumption) | exact MAt.a13 (by assumption) | exact MAt.a14 (by assumption) | exact MAt.a15 (by assumption) | exact MAt.a16 (by assumption)) (by rfl) dX8_meets_104 ?_
      refine r_iload_n dX8_meets_107 rfl ?_
      refine r_iconst (v := nI 0) dX8_meets_108 (by decide) ?_
      first | refine r_iadd_n dX8_meets_109 ?_ | refine r_iadd dX8_meets_109 ?_
      rw [Nat.add_zero (31 * (F 18 + 1))]
      refine r_iload dX8_meets_110 rfl ?_
      first | refine r_iadd_n dX8_meets_112 ?_ | refine r_iadd dX8_meets_112 ?_
      refine r_iald_n (by first | exact MAt.o (by assumption) | exact MAt.a1 (by assumption) | exact MAt.a2 (by assumption) | exact MAt.a3 (by assumption) | exact MAt.a4 (by assumption) | exact MAt.a5 (by assumption) | exact MAt.a6 (by assumption) | exact MAt.a7 (by assumption) | exact MAt.a8 (by assumption) | exact MAt.a9 (by assumption) | exact MAt.a10 (by assumption) | exact MAt.a11 (by assumption) | exact MAt.a12 (by assumption) | exact MAt.a13 (by assumption) | exact MAt.a14 (by assumption) | exact MAt.a15 (by assumption) | exact MAt.a16 (by assumption)) (by rfl) (by omega) (by omega) dX8_meets_113 ?_
      rw [sE_n (by omega)]
      refine r_istore dX8_meets_114 (by decide) ?_
      simp only [mst1, mclr]
      refine r_iload dX8_meets_116 rfl ?_
      first | refine r_aload_n dX8_meets_118 rfl ?_ | refine r_aload_nq dX8_meets_118 rfl ?_ | refine r_aload_nN dX8_meets_118 rfl ?_
      refine r_getf f_X8_37_7 (by first | exact MAt.o (by assumption) | exact MAt.a1 (by assumption) | exact MAt.a2 (by assumption) | exact MAt.a3 (by assumption) | exact MAt.a4 (by assumption) | exact MAt.a5 (by assumption) | exact MAt.a6 (by assumption) | exact MAt.a7 (by assumption) | exact MAt.a8 (by assumption) | exact MAt.a9 (by assumption) | exact MAt.a10 (by assumption) | exact MAt.a11 (by assumption) | exact MAt.a12 (by assumption) | exact MAt.a13 (by assumption) | exact MAt.a14 (by assumption) | exact MAt.a15 (by assumption) | exact MAt.a16 (by assumption)) (by rfl) dX8_meets_119 ?_
      refine r_iconst (v := nI 0) dX8_meets_122 (by decide) ?_
      refine r_iload dX8_meets_123 rfl ?_
      first | refine r_iadd_n dX8_meets_125 ?_ | refine r_iadd dX8_meets_125 ?_
      rw [Nat.zero_add i]
      refine r_iald_n (by first | exact MAt.o (by assumption) | exact MAt.a1 (by assumption) | exact MAt.a2 (by assumption) | exact MAt.a3 (by assumption) | exact MAt.a4 (by assumption) | exact MAt.a5 (by assumption) | exact MAt.a6 (by assumption) | exact MAt.a7 (by assumption) | exact MAt.a8 (by assumption) | exact MAt.a9 (by assumption) | exact MAt.a10 (by assumption) | exact MAt.a11 (by assumption) | exact MAt.a12 (by assumption) | exact MAt.a13 (by assumption) | exact MAt.a14 (by assumption) | exact MAt.a15 (by assumption) | exact MAt.a16 (by assumption)) (by rfl) (by omega) (by omega) dX8_meets_126 ?_
      rw [sE_n (by omega)]
      first | refine r_icmp_eq_n (tgt := 187) dX8_meets_127 (by decide) (by omega) (by omega) (fun h127 => ?_) (fun h127 => ?_) | refine r_icmp_eq_pn (tgt := 187) dX8_meets_127 (by decide) (by omega) (by omega) (fun h127 => ?_) (fun h127 => ?_) | refine r_icmp_eq_pm (tgt := 187) dX8_meets_127 (by decide) (by omega) (fun h127 => ?_) (fun h127 => ?_) | refine r_icmp_eq (tgt := 187) dX8_meets_127 (by decide) (fun h127 => ?_) (fun h127 => ?_)
      · refine nx M A' _ hM ha (fun _ _ _ _ => rfl) ?_ ?_
        · rw [b2]; unfold zMeet; rw [if_neg (by omega), if_neg (by omega)]
        · rw [b1]; unfold zMeet; rw [if_neg (by omega), if_neg (by rw [show 8 + i - 8 = i by omega]; omega)]
      · have fin : ∀ M x, x = zMeet (A 1 0) (A 10) f (8 + i) → MAt B M m F D (fA A' 10 (fU (A' 10) (8 + i) x)) → mW G zX8_meets (d + 1) 177 [some (.ref m), some (.int (nI k)), some (.int (nI (31 * (F 18 + 1)))), some (.int v3), some (.int (nI i)), some (.int (nI (A' 12 (31 * (F 18 + 1) + i))))] [] M t u Q := by
          intro M x hx hM
          first | refine r_aload_n dX8_meets_177 rfl ?_ | refine r_aload_nq dX8_meets_177 rfl ?_ | refine r_aload_nN dX8_meets_177 rfl ?_
          refine r_getf f_X8_37_7 (by first | exact MAt.o (by assumption) | exact MAt.a1 (by assumption) | exact MAt.a2 (by assumption) | exact MAt.a3 (by assumption) | exact MAt.a4 (by assumption) | exact MAt.a5 (by assumption) | exact MAt.a6 (by assumption) | exact MAt.a7 (by assumption) | exact MAt.a8 (by assumption) | exact MAt.a9 (by assumption) | exact MAt.a10 (by assumption) | exact MAt.a11 (by assumption) | exact MAt.a12 (by assumption) | exact MAt.a13 (by assumption) | exact MAt.a14 (by assumption) | exact MAt.a15 (by assumption) | exact MAt.a16 (by assumption)) (by rfl) dX8_meets_178 ?_
          refine r_iconst (v := nI 0) dX8_meets_181 (by decide) ?_
          refine r_iload dX8_meets_182 rfl ?_
          first | refine r_iadd_n dX8_meets_184 ?_ | refine r_iadd dX8_meets_184 ?_
          rw [Nat.zero_add i]
          refine r_iconst (v := nI 2) dX8_meets_185 (by decide) ?_
          refine r_iast_n (by first | exact MAt.o (by assumption) | exact MAt.a1 (by assumption) | exact MAt.a2 (by assumption) | exact MAt.a3 (by assumption) | exact MAt.a4 (by assumption) | exact MAt.a5 (by assumption) | exact MAt.a6 (by assumption) | exact MAt.a7 (by assumption) | exact MAt.a8 (by assumption) | exact MAt.a9 (by assumption) | exact MAt.a10 (by assumption) | exact MAt.a11 (by assumption) | exact MAt.a12 (by assumption) | exact MAt.a13 (by assumption) | exact MAt.a14 (by assumption) | exact MAt.a15 (by assumption) | exact MAt.a16 (by assumption)) (by rfl) (by omega) (by omega) (by omega) dX8_meets_186 ?_
          refine MAt.g10 2 (by assumption) (by first | (refine Eq.trans (show _ = nI (2) from rfl) (sE_n ?_).symm; omega) | (refine Eq.trans (show _ = pI (2) from rfl) (sE_p ?_).symm; omega)) (fun M hM => ?_)
          refine nx _ _ _ hM (fun q hq => by rw [fA_ne hq, fA_ne hq]; exact ha q hq) (fun j hj e1 e2 => ?_) ?_ ?_
          · rw [fA_eq, fU_ne e1, fA_eq, fU_ne e2]
          · rw [fA_eq, fU_eq]; unfold zMeet; rw [if_pos (by omega)]
          · rw [fA_eq, fU_ne (by omega), fA_eq, fU_eq]; exact hx
        first | refine r_aload_n dX8_meets_130 rfl ?_ | refine r_aload_nq dX8_meets_130 rfl ?_ | refine r_aload_nN dX8_meets_130 rfl ?_
        refine r_getf f_X8_37_7 (by first | exact MAt.o (by assumption) | exact MAt.a1 (by assumption) | exact MAt.a2 (by assumption) | exact MAt.a3 (by assumption) | exact MAt.a4 (by assumption) | exact MAt.a5 (by assumption) | exact MAt.a6 (by assumption) | exact MAt.a7 (by assumption) | exact MAt.a8 (by assumption) | exact MAt.a9 (by assumption) | exact MAt.a10 (by assumption) | exact MAt.a11 (by assumption) | exact MAt.a12 (by assumption) | exact MAt.a13 (by assumption) | exact MAt.a14 (by assumption) | exact MAt.a15 (by assumption) | exact MAt.a16 (by assumption)) (by rfl) dX8_meets_131 ?_
        refine r_bipush (v := nI 8) dX8_meets_134 (by decide) ?_
        refine r_iload dX8_meets_136 rfl ?_
        first | refine r_iadd_n dX8_meets_138 ?_ | refine r_iadd dX8_meets_138 ?_
        first | refine r_aload_n dX8_meets_139 rfl ?_ | refine r_aload_nq dX8_meets_139 rfl ?_ | refine r_aload_nN dX8_meets_139 rfl ?_
        refine r_getf f_X8_37_7 (by first | exact MAt.o (by assumption) | exact MAt.a1 (by assumption) | exact MAt.a2 (by assumption) | exact MAt.a3 (by assumption) | exact MAt.a4 (by assumption) | exact MAt.a5 (by assumption) | exact MAt.a6 (by assumption) | exact MAt.a7 (by assumption) | exact MAt.a8 (by assumption) | exact MAt.a9 (by assumption) | exact MAt.a10 (by assumption) | exact MAt.a11 (by assumption) | exact MAt.a12 (by assumption) | exact MAt.a13 (by assumption) | exact MAt.a14 (by assumption) | exact MAt.a15 (by assumption) | exact MAt.a16 (by assumption)) (by rfl) dX8_meets_140 ?_
        refine r_iconst (v := nI 0) dX8_meets_143 (by decide) ?_
        refine r_iload dX8_meets_144 rfl ?_
        first | refine r_iadd_n dX8_meets_146 ?_ | refine r_iadd dX8_meets_146 ?_
        rw [Nat.zero_add i]
        refine r_iald_n (by first | exact MAt.o (by assumption) | exact MAt.a1 (by assumption) | exact MAt.a2 (by assumption) | exact MAt.a3 (by assumption) | exact MAt.a4 (by assumption) | exact MAt.a5 (by assumption) | exact MAt.a6 (by assumption) | exact MAt.a7 (by assumption) | exact MAt.a8 (by assumption) | exact MAt.a9 (by assumption) | exact MAt.a10 (by assumption) | exact MAt.a11 (by assumption) | exact MAt.a12 (by assumption) | exact MAt.a13 (by assumption) | exact MAt.a14 (by assumption) | exact MAt.a15 (by assumption) | exact MAt.a16 (by assumption)) (by rfl) (by omega) (by omega) dX8_meets_147 ?_
        rw [sE_n (by omega)]
        refine r_if_ne_n (tgt := 166) dX8_meets_148 (by decide) (by omega) (fun h148 => ?_) (fun h148 => ?_)
        · first | refine r_aload_n dX8_meets_166 rfl ?_ | refine r_aload_nq dX8_meets_166 rfl ?_ | refine r_aload_nN dX8_meets_166 rfl ?_
          refine r_getf f_X8_37_7 (by first | exact MAt.o (by assumption) | exact MAt.a1 (by assumption) | exact MAt.a2 (by assumption) | exact MAt.a3 (by assumption) | exact MAt.a4 (by assumption) | exact MAt.a5 (by assumption) | exact MAt.a6 (by assumption) | exact MAt.a7 (by assumption) | exact MAt.a8 (by assumption) | exact MAt.a9 (by assumption) | exact MAt.a10 (by assumption) | exact MAt.a11 (by assumption) | exact MAt.a12 (by assumption) | exact MAt.a13 (by assumption) | exact MAt.a14 (by assumption) | exact MAt.a15 (by assumption) | exact MAt.a16 (by assumption)) (by rfl) dX8_meets_167 ?_
          refine r_bipush (v := nI 8) dX8_meets_170 (by decide) ?_
          refine r_iload dX8_meets_172 rfl ?_
          first | refine r_iadd_n dX8_meets_174 ?_ | refine r_iadd dX8_meets_174 ?_
          refine r_iald_n (by first | exact MAt.o (by assumption) | exact MAt.a1 (by assumption) | exact MAt.a2 (by assumption) | exact MAt.a3 (by assumption) | exact MAt.a4 (by assumption) | exact MAt.a5 (by assumption) | exact MAt.a6 (by assumption) | exact MAt.a7 (by assumption) | exact MAt.a8 (by assumption) | exact MAt.a9 (by assumption) | exact MAt.a10 (by assumption) | exact MAt.a11 (by assumption) | exact MAt.a12 (by assumption) | exact MAt.a13 (by assumption) | exact MAt.a14 (by assumption) | exact MAt.a15 (by assumption) | exact MAt.a16 (by assumption)) (by rfl) (by omega) (by omega) dX8_meets_175 ?_
          rw [sE_n (by omega)]
          refine r_iast_n (by first | exact MAt.o (by assumption) | exact MAt.a1 (by assumption) | exact MAt.a2 (by assumption) | exact MAt.a3 (by assumption) | exact MAt.a4 (by assumption) | exact MAt.a5 (by assumption) | exact MAt.a6 (by assumption) | exact MAt.a7 (by assumption) | exact MAt.a8 (by assumption) | exact MAt.a9 (by assumption) | exact MAt.a10 (by assumption) | exact MAt.a11 (by assumption) | exact MAt.a12 (by assumption) | exact MAt.a13 (by assumption) | exact MAt.a14 (by assumption) | exact MAt.a15 (by assumption) | exact MAt.a16 (by assumption)) (by rfl) (by omega) (by omega) (by omega) dX8_meets_176 ?_
          refine MAt.g10 (A' 10 (8 + i)) (by assumption) (by first | (refine Eq.trans (show _ = nI ((A' 10 (8 + i))) from rfl) (sE_n ?_).symm; omega) | (refine Eq.trans (show _ = pI ((A' 10 (8 + i))) from rfl) (sE_p ?_).symm; omega)) (fun M hM => ?_)
          refine fin _ _ ?_ hM
          rw [b1]; unfold zMeet; rw [if_neg (by omega), if_neg (by rw [show 8 + i - 8 = i by omega]; omega)]
        · first | refine r_aload_n dX8_meets_151 rfl ?_ | refine r_aload_nq dX8_meets_151 rfl ?_ | refine r_aload_nN dX8_meets_151 rfl ?_
          refine r_getf f_X8_43_7 (by first | exact MAt.o (by assumption) | exact MAt.a1 (by assumption) | exact MAt.a2 (by assumption) | exact MAt.a3 (by assumption) | exact MAt.a4 (by assumption) | exact MAt.a5 (by assumption) | exact MAt.a6 (by assumption) | exact MAt.a7 (by assumption) | exact MAt.a8 (by assumption) | exact MAt.a9 (by assumption) | exact MAt.a10 (by assumption) | exact MAt.a11 (by assumption) | exact MAt.a12 (by assumption) | exact MAt.a13 (by assumption) | exact MAt.a14 (by assumption) | exact MAt.a15 (by assumption) | exact MAt.a16 (by assumption)) (by rfl) dX8_meets_152 ?_
          refine r_iload_n dX8_meets_155 rfl ?_
          refine r_bipush (v := nI 8) dX8_meets_156 (by decide) ?_
          first | refine r_iadd_n dX8_meets_158 ?_ | refine r_iadd dX8_meets_158 ?_
          refine r_iload dX8_meets_159 rfl ?_
          first | refine r_iadd_n dX8_meets_161 ?_ | refine r_iadd dX8_meets_161 ?_
          refine r_iald_n (by first | exact MAt.o (by assumption) | exact MAt.a1 (by assumption) | exact MAt.a2 (by assumption) | exact MAt.a3 (by assumption) | exact MAt.a4 (by assumption) | exact MAt.a5 (by assumption) | exact MAt.a6 (by assumption) | exact MAt.a7 (by assumption) | exact MAt.a8 (by assumption) | exact MAt.a9 (by assumption) | exact MAt.a10 (by assumption) | exact MAt.a11 (by assumption) | exact MAt.a12 (by assumption) | exact MAt.a13 (by assumption) | exact MAt.a14 (by assumption) | exact MAt.a15 (by assumption) | exact MAt.a16 (by assumption)) (by rfl) (by omega) (by omega) dX8_meets_162 ?_
          rw [sE_n (by omega)]
          refine r_goto (tgt := 176) dX8_meets_163 (by decide) ?_
          refine r_iast_n (by first | exact MAt.o (by assumption) | exact MAt.a1 (by assumption) | exact MAt.a2 (by assumption) | exact MAt.a3 (by assumption) | exact MAt.a4 (by assumption) | exact MAt.a5 (by assumption) | exact MAt.a6 (by assumption) | exact MAt.a7 (by assumption) | exact MAt.a8 (by assumption) | exact MAt.a9 (by assumption) | exact MAt.a10 (by assumption) | exact MAt.a11 (by assumption) | exact MAt.a12 (by assumption) | exact MAt.a13 (by assumption) | exact MAt.a14 (by assumption) | exact MAt.a15 (by assumption) | exact MAt.a16 (by assumption)) (by rfl) (by omega) (by omega) (by omega) dX8_meets_176 ?_
          refine MAt.g10 (A' 12 (31 * (F 18 + 1) + 8 + i)) (by assumption) (by first | (refine Eq.trans (show _ = nI ((A' 12 (31 * (F 18 + 1) + 8 + i))) from rfl) (sE_n ?_).symm; omega) | (refine Eq.trans (show _ = pI ((A' 12 (31 * (F 18 + 1) + 8 + i))) from rfl) (sE_p ?_).symm; omega)) (fun M hM => ?_)
          refine fin _ _ ?_ hM
          rw [a128]; unfold zMeet; rw [if_neg (by omega), if_pos (by rw [show 8 + i - 8 = i by omega]; omega)]
  have hle : zUn (A 1 0) (fun g => A 1 (21 + g)) (A 10) f ≤ 8 := by have := loF_le (zUP (fun g => A 1 (21 + g)) (A 10) f) (A 1 0) 0; unfold zUn; omega
  have loop1 : ∀ i n, i + n = A 1 0 → mW G zX8_meets (d + 1) 22 [some (.ref m), some (.int (nI k)), some (.int (nI (31 * (F 18 + 1)))), some (.int (pI (loF (zUP (fun g => A 1 (21 + g)) (A 10) f) i n))), some (.int (pI i)), none] [] M t u Q := by
    intro i
    induction i with
    | zero =>
      intro n hn
      have hn : n = A 1 0 := by omega
      subst hn
      have hle : loF (zUP (fun g => A 1 (21 + g)) (A 10) f) 0 (A 1 0) ≤ 8 := hle
      refine r_iload dX8_meets_22 rfl ?_
      first | refine r_if_lt_p (tgt := 76) dX8_meets_24 (by decide) (by omega) (fun h24 => ?_) (fun h24 => by exfalso; omega) | refine r_if_lt_n (tgt := 76) dX8_meets_24 (by decide) (by omega) ?_ | refine r_if_lt (tgt := 76) dX8_meets_24 (by decide) (fun h24 => ?_) (fun h24 => by exfalso; omega)
      refine r_iload_n dX8_meets_76 rfl ?_
      first | refine r_if_lt_p (tgt := 89) dX8_meets_77 (by decide) (by omega) (fun h77 => ?_) (fun h77 => ?_) | refine r_if_lt_n (tgt := 89) dX8_meets_77 (by decide) (by omega) ?_ | refine r_if_lt (tgt := 89) dX8_meets_77 (by decide) (fun h77 => ?_) (fun h77 => ?_)
      · refine r_iconst (v := nI 0) dX8_meets_89 (by decide) ?_
        refine r_istore dX8_meets_90 (by decide) ?_
        simp only [mst1, mclr]
        exact loop2 (A 1 0) 0 M A _ _ (by omega) h (fun _ _ => rfl) (fun j hj => by rw [if_neg (by omega)]) h77
      · obtain ⟨g, hg⟩ : ∃ g, loF (zUP (fun g => A 1 (21 + g)) (A 10) f) 0 (A 1 0) = g + 1 := ⟨loF (zUP (fun g => A 1 (21 + g)) (A 10) f) 0 (A 1 0) - 1, by omega⟩
        have hE := hE (by unfold zUn; omega)
        unfold zUn at hE
        rw [hg] at hE ⊢
        first | refine r_aload_n dX8_meets_80 rfl ?_ | refine r_aload_nq dX8_meets_80 rfl ?_ | refine r_aload_nN dX8_meets_80 rfl ?_
        refine r_bipush (v := nI 8) dX8_meets_81 (by decide) ?_
        refine r_iload_n dX8_meets_83 rfl ?_
        refine r_iload_n dX8_meets_84 rfl ?_
        refine r_callV s_X8_188_v dX8_meets_85 (by first | exact MAt.o (by assumption) | exact MAt.a1 (by assumption) | exact MAt.a2 (by assumption) | exact MAt.a3 (by assumption) | exact MAt.a4 (by assumption) | exact MAt.a5 (by assumption) | exact MAt.a6 (by assumption) | exact MAt.a7 (by assumption) | exact MAt.a8 (by assumption) | exact MAt.a9 (by assumption) | exact MAt.a10 (by assumption) | exact MAt.a11 (by assumption) | exact MAt.a12 (by assumption) | exact MAt.a13 (by assumption) | exact MAt.a14 (by assumption) | exact MAt.a15 (by assumption) | exact MAt.a16 (by assumption)) (by rfl) rfl (Nat.le_of_ble_eq_true rfl) (m_errs h hb 8 (k + 1) (g + 1) (fun M hM => ?_))
        refine mK_r ?_
        refine r_iret rfl (by first | rfl | exact bI_nar _) dX8_meets_88 ?_
        exact hE _ hM
    | succ i ih =>
      intro n hn
      have b1 := hz i (by omega)
      have b3 := hk i (by omega)
      obtain ⟨f1, f2⟩ := hf i (by omega)
      have nx : ∀ v, v = pI (loF (zUP (fun g => A 1 (21 + g)) (A 10) f) i (n + 1)) → mW G zX8_meets (d + 1) 69 [some (.ref m), some (.int (nI k)), some (.int (nI (31 * (F 18 + 1)))), some (.int (pI (loF (zUP (fun g => A 1 (21 + g)) (A 10) f) (i + 1) n))), some (.int (nI i)), none] [.int v] M t u Q := by
        intro v hv
        subst hv
        refine r_istore_n dX8_meets_69 (by decide) ?_
        simp only [mst1, mclr]
        refine r_iinc dX8_meets_70 rfl (nI_m1 i) (by decide) ?_
        simp only [mst1, mclr]
        refine r_goto (tgt := 22) dX8_meets_73 (by decide) ?_
        exact ih (n + 1) (by omega)
      have no : zUP (fun g => A 1 (21 + g)) (A 10) f i = false → mW G zX8_meets (d + 1) 68 [some (.ref m), some (.int (nI k)), some (.int (nI (31 * (F 18 + 1)))), some (.int (pI (loF (zUP (fun g => A 1 (21 + g)) (A 10) f) (i + 1) n))), some (.int (nI i)), none] [] M t u Q := by
        intro hx
        refine r_iload_n dX8_meets_68 rfl ?_
        refine nx _ ?_
        show _ = pI (if _ then _ else _)
        rw [if_neg (by rw [hx]; decide)]
      rw [show pI (i + 1) = nI i from rfl]
      refine r_iload dX8_meets_22 rfl ?_
      refine r_if_lt_n (tgt := 76) dX8_meets_24 (by decide) (by omega) ?_
      first | refine r_aload_n dX8_meets_27 rfl ?_ | refine r_aload_nq dX8_meets_27 rfl ?_ | refine r_aload_nN dX8_meets_27 rfl ?_
      refine r_getf f_X8_9_7 (by first | exact MAt.o (by assumption) | exact MAt.a1 (by assumption) | exact MAt.a2 (by assumption) | exact MAt.a3 (by assumption) | exact MAt.a4 (by assumption) | exact MAt.a5 (by assumption) | exact MAt.a6 (by assumption) | exact MAt.a7 (by assumption) | exact MAt.a8 (by assumption) | exact MAt.a9 (by assumption) | exact MAt.a10 (by assumption) | exact MAt.a11 (by assumption) | exact MAt.a12 (by assumption) | exact MAt.a13 (by assumption) | exact MAt.a14 (by assumption) | exact MAt.a15 (by assumption) | exact MAt.a16 (by assumption)) (by rfl) dX8_meets_28 ?_
      refine r_bipush (v := nI 21) dX8_meets_31 (by decide) ?_
      refine r_iload dX8_meets_33 rfl ?_
      first | refine r_iadd_n dX8_meets_35 ?_ | refine r_iadd dX8_meets_35 ?_
      refine r_iald_n (by first | exact MAt.o (by assumption) | exact MAt.a1 (by assumption) | exact MAt.a2 (by assumption) | exact MAt.a3 (by assumption) | exact MAt.a4 (by assumption) | exact MAt.a5 (by assumption) | exact MAt.a6 (by assumption) | exact MAt.a7 (by assumption) | exact MAt.a8 (by assumption) | exact MAt.a9 (by assumption) | exact MAt.a10 (by assumption) | exact MAt.a11 (by assumption) | exact MAt.a12 (by assumption) | exact MAt.a13 (by assumption) | exact MAt.a14 (by assumption) | exact MAt.a15 (by assumption) | exact MAt.a16 (by assumption)) (by rfl) (by omega) (by omega) dX8_meets_36 ?_
      refine r_if_ne_n (tgt := 68) dX8_meets_37 (by decide) (by omega) (fun h37 => ?_) (fun h37 => ?_)
      · exact no (decide_eq_false (fun hh => by have := hh.1; simp only at this; omega))
      first | refine r_aload_n dX8_meets_40 rfl ?_ | refine r_aload_nq dX8_meets_40 rfl ?_ | refine r_aload_nN dX8_meets_40 rfl ?_
      refine r_getf f_X8_43_7 (by first | exact MAt.o (by assumption) | exact MAt.a1 (by assumption) | exact MAt.a2 (by assumption) | exact MAt.a3 (by assumption) | exact MAt.a4 (by assumption) | exact MAt.a5 (by assumption) | exact MAt.a6 (by assumption) | exact MAt.a7 (by assumption) | exact MAt.a8 (by assumption) | exact MAt.a9 (by assumption) | exact MAt.a10 (by assumption) | exact MAt.a11 (by assumption) | exact MAt.a12 (by assumption) | exact MAt.a13 (by assumption) | exact MAt.a14 (by assumption) | exact MAt.a15 (by assumption) | exact MAt.a16 (by assumption)) (by rfl) dX8_meets_41 ?_
      refine r_iload_n dX8_meets_44 rfl ?_
      refine r_iconst (v := nI 0) dX8_meets_45 (by decide) ?_
      first | refine r_iadd_n dX8_meets_46 ?_ | refine r_iadd dX8_meets_46 ?_
      rw [Nat.add_zero (31 * (F 18 + 1))]
      refine r_iload dX8_meets_47 rfl ?_
      first | refine r_iadd_n dX8_meets_49 ?_ | refine r_iadd dX8_meets_49 ?_
      refine r_iald_n (by first | exact MAt.o (by assumption) | exact MAt.a1 (by assumption) | exact MAt.a2 (by assumption) | exact MAt.a3 (by assumption) | exact MAt.a4 (by assumption) | exact MAt.a5 (by assumption) | exact MAt.a6 (by assumption) | exact MAt.a7 (by assumption) | exact MAt.a8 (by assumption) | exact MAt.a9 (by assumption) | exact MAt.a10 (by assumption) | exact MAt.a11 (by assumption) | exact MAt.a12 (by assumption) | exact MAt.a13 (by assumption) | exact MAt.a14 (by assumption) | exact MAt.a15 (by assumption) | exact MAt.a16 (by assumption)) (by rfl) (by omega) (by omega) dX8_meets_50 ?_
      rw [sE_n (by omega)]
      first | refine r_aload_n dX8_meets_51 rfl ?_ | refine r_aload_nq dX8_meets_51 rfl ?_ | refine r_aload_nN dX8_meets_51 rfl ?_
      refine r_getf f_X8_37_7 (by first | exact MAt.o (by assumption) | exact MAt.a1 (by assumption) | exact MAt.a2 (by assumption) | exact MAt.a3 (by assumption) | exact MAt.a4 (by assumption) | exact MAt.a5 (by assumption) | exact MAt.a6 (by assumption) | exact MAt.a7 (by assumption) | exact MAt.a8 (by assumption) | exact MAt.a9 (by assumption) | exact MAt.a10 (by assumption) | exact MAt.a11 (by assumption) | exact MAt.a12 (by assumption) | exact MAt.a13 (by assumption) | exact MAt.a14 (by assumption) | exact MAt.a15 (by assumption) | exact MAt.a16 (by assumption)) (by rfl) dX8_meets_52 ?_
      refine r_iconst (v := nI 0) dX8_meets_55 (by decide) ?_
      refine r_iload dX8_meets_56 rfl ?_
      first | refine r_iadd_n dX8_meets_58 ?_ | refine r_iadd dX8_meets_58 ?_
      rw [Nat.zero_add i]
      refine r_iald_n (by first | exact MAt.o (by assumption) | exact MAt.a1 (by assumption) | exact MAt.a2 (by assumption) | exact MAt.a3 (by assumption) | exact MAt.a4 (by assumption) | exact MAt.a5 (by assumption) | exact MAt.a6 (by assumption) | exact MAt.a7 (by assumption) | exact MAt.a8 (by assumption) | exact MAt.a9 (by assumption) | exact MAt.a10 (by assumption) | exact MAt.a11 (by assumption) | exact MAt.a12 (by assumption) | exact MAt.a13 (by assumption) | exact MAt.a14 (by assumption) | exact MAt.a15 (by assumption) | exact MAt.a16 (by assumption)) (by rfl) (by omega) (by omega) dX8_meets_59 ?_
      rw [sE_n (by omega)]
      first | refine r_icmp_eq_n (tgt := 68) dX8_meets_60 (by decide) (by omega) (by omega) (fun h60 => ?_) (fun h60 => ?_) | refine r_icmp_eq_pn (tgt := 68) dX8_meets_60 (by decide) (by omega) (by omega) (fun h60 => ?_) (fun h60 => ?_) | refine r_icmp_eq_pm (tgt := 68) dX8_meets_60 (by decide) (by omega) (fun h60 => ?_) (fun h60 => ?_) | refine r_icmp_eq (tgt := 68) dX8_meets_60 (by decide) (fun h60 => ?_) (fun h60 => ?_)
      · exact no (decide_eq_false (fun hh => by have := hh.2; omega))
      refine r_iload dX8_meets_63 rfl ?_
      refine r_goto (tgt := 69) dX8_meets_65 (by decide) ?_
      refine nx _ ?_
      show _ = pI (if _ then _ else _)
      have hp : zUP (fun g => A 1 (21 + g)) (A 10) f i = true := decide_eq_true ⟨h37, by omega⟩
      rw [if_pos hp]; rfl
  refine r_bipush (v := nI 31) dX8_meets_0 (by decide) ?_
  first | refine r_aload_n dX8_meets_2 rfl ?_ | refine r_aload_nq dX8_meets_2 rfl ?_ | refine r_aload_nN dX8_meets_2 rfl ?_
  refine r_getf f_X8_173_7 (by first | exact MAt.o (by assumption) | exact MAt.a1 (by assumption) | exact MAt.a2 (by assumption) | exact MAt.a3 (by assumption) | exact MAt.a4 (by assumption) | exact MAt.a5 (by assumption) | exact MAt.a6 (by assumption) | exact MAt.a7 (by assumption) | exact MAt.a8 (by assumption) | exact MAt.a9 (by assumption) | exact MAt.a10 (by assumption) | exact MAt.a11 (by assumption) | exact MAt.a12 (by assumption) | exact MAt.a13 (by assumption) | exact MAt.a14 (by assumption) | exact MAt.a15 (by assumption) | exact MAt.a16 (by assumption)) (by rfl) dX8_meets_3 ?_
  refine r_iconst (v := nI 1) dX8_meets_6 (by decide) ?_
  first | refine r_iadd_n dX8_meets_7 ?_ | refine r_iadd dX8_meets_7 ?_
  first | refine r_imul_n dX8_meets_8 ?_ | refine r_imul dX8_meets_8 ?_
  refine r_istore_n dX8_meets_9 (by decide) ?_
  simp only [mst1, mclr]
  refine r_iconst (v := -1) dX8_meets_10 (by decide) ?_
  refine r_istore_n dX8_meets_11 (by decide) ?_
  simp only [mst1, mclr]
  first | refine r_aload_n dX8_meets_12 rfl ?_ | refine r_aload_nq dX8_meets_12 rfl ?_ | refine r_aload_nN dX8_meets_12 rfl ?_
  refine r_getf f_X8_9_7 (by first | exact MAt.o (by assumption) | exact MAt.a1 (by assumption) | exact MAt.a2 (by assumption) | exact MAt.a3 (by assumption) | exact MAt.a4 (by assumption) | exact MAt.a5 (by assumption) | exact MAt.a6 (by assumption) | exact MAt.a7 (by assumption) | exact MAt.a8 (by assumption) | exact MAt.a9 (by assumption) | exact MAt.a10 (by assumption) | exact MAt.a11 (by assumption) | exact MAt.a12 (by assumption) | exact MAt.a13 (by assumption) | exact MAt.a14 (by assumption) | exact MAt.a15 (by assumption) | exact MAt.a16 (by assumption)) (by rfl) dX8_meets_13 ?_
  refine r_iconst (v := nI 0) dX8_meets_16 (by decide) ?_
  refine r_iald_n (by first | exact MAt.o (by assumption) | exact MAt.a1 (by assumption) | exact MAt.a2 (by assumption) | exact MAt.a3 (by assumption) | exact MAt.a4 (by assumption) | exact MAt.a5 (by assumption) | exact MAt.a6 (by assumption) | exact MAt.a7 (by assumption) | exact MAt.a8 (by assumption) | exact MAt.a9 (by assumption) | exact MAt.a10 (by assumption) | exact MAt.a11 (by assumption) | exact MAt.a12 (by assumption) | exact MAt.a13 (by assumption) | exact MAt.a14 (by assumption) | exact MAt.a15 (by assumption) | exact MAt.a16 (by assumption)) (by rfl) (by omega) (by omega) dX8_meets_17 ?_
  refine r_iconst (v := nI 1) dX8_meets_18 (by decide) ?_
  refine r_isub dX8_meets_19 ?_
  rw [nI_s1]
  refine r_istore dX8_meets_20 (by decide) ?_
  simp only [mst1, mclr]
  exact loop1 (A 1 0) 0 (by omega)
end WALK2
