/-! ===== the model, goods and chests ===== -/
section MOD2
variable {G : mG} {d : Nat} {B M : mM} {m t u : Nat} {F : Nat → Nat} {D : Int32} {A : Nat → Nat → Nat} {Q : mQt}
theorem m_placeOf (h : MAt B M m F D A) (g : Nat) (hg : g < 8) (hc : A 1 (21 + g) < 3) (hm : A 1 (6 + A 1 (21 + g)) ≤ 4) (hb : ∀ p, p < A 1 (6 + A 1 (21 + g)) → A 1 (9 + 4 * A 1 (21 + g) + p) < 8)
    (hq : ∀ r : Int32, r = pI (plF (fun p => A 1 (9 + 4 * A 1 (21 + g) + p)) g (A 1 (6 + A 1 (21 + g)))) → Q (.inl (some (.int r))) M t u) : mMet G d zX8_placeOf [.ref m, .int (nI g)] M t u Q := by
  refine m_intro (by decide +kernel) ⟨Nat.le_of_ble_eq_true rfl, Nat.le_of_ble_eq_true rfl⟩ ?_
  show mW G _ _ 0 [some (.ref m), some (.int (nI g)), none, none, none] [] _ _ _ _
  have loop : ∀ n i, i + n = A 1 (6 + A 1 (21 + g)) → mW G zX8_placeOf d 15 [some (.ref m), some (.int (nI g)), some (.int (nI (A 1 (21 + g)))), some (.int (pI (plF (fun p => A 1 (9 + 4 * A 1 (21 + g) + p)) g i))), some (.int (nI i))] [] M t u Q := by
    intro n
    induction n with
    | zero =>
      intro i hi
      refine r_iload dX8_placeOf_15 rfl ?_
      first | refine r_aload_n dX8_placeOf_17 rfl ?_ | refine r_aload_nq dX8_placeOf_17 rfl ?_ | refine r_aload_nN dX8_placeOf_17 rfl ?_
      refine r_getf f_X8_9_7 (by first | exact MAt.o (by assumption) | exact MAt.a1 (by assumption) | exact MAt.a2 (by assumption) | exact MAt.a3 (by assumption) | exact MAt.a4 (by assumption) | exact MAt.a5 (by assumption) | exact MAt.a6 (by assumption) | exact MAt.a7 (by assumption) | exact MAt.a8 (by assumption) | exact MAt.a9 (by assumption) | exact MAt.a10 (by assumption) | exact MAt.a11 (by assumption) | exact MAt.a12 (by assumption) | exact MAt.a13 (by assumption) | exact MAt.a14 (by assumption) | exact MAt.a15 (by assumption) | exact MAt.a16 (by assumption)) (by rfl) dX8_placeOf_18 ?_
      refine r_bipush (v := nI 6) dX8_placeOf_21 (by decide) ?_
      refine r_iload_n dX8_placeOf_23 rfl ?_
      first | refine r_iadd_n dX8_placeOf_24 ?_ | refine r_iadd dX8_placeOf_24 ?_
      refine r_iald_n (by first | exact MAt.o (by assumption) | exact MAt.a1 (by assumption) | exact MAt.a2 (by assumption) | exact MAt.a3 (by assumption) | exact MAt.a4 (by assumption) | exact MAt.a5 (by assumption) | exact MAt.a6 (by assumption) | exact MAt.a7 (by assumption) | exact MAt.a8 (by assumption) | exact MAt.a9 (by assumption) | exact MAt.a10 (by assumption) | exact MAt.a11 (by assumption) | exact MAt.a12 (by assumption) | exact MAt.a13 (by assumption) | exact MAt.a14 (by assumption) | exact MAt.a15 (by assumption) | exact MAt.a16 (by assumption)) (by rfl) (by omega) (by omega) dX8_placeOf_25 ?_
      first | refine r_icmp_ge_n (tgt := 60) dX8_placeOf_26 (by decide) (by omega) (by omega) (fun h26 => ?_) (fun h26 => by exfalso; omega) | refine r_icmp_ge (tgt := 60) dX8_placeOf_26 (by decide) (fun h26 => ?_) (fun h26 => by exfalso; omega)
      refine r_iload_n dX8_placeOf_60 rfl ?_
      refine r_iret rfl (by first | rfl | exact bI_nar _) dX8_placeOf_61 ?_
      exact hq _ (by rw [← hi]; rfl)
    | succ n ih =>
      intro i hi
      have hb1 := hb i (by omega)
      refine r_iload dX8_placeOf_15 rfl ?_
      first | refine r_aload_n dX8_placeOf_17 rfl ?_ | refine r_aload_nq dX8_placeOf_17 rfl ?_ | refine r_aload_nN dX8_placeOf_17 rfl ?_
      refine r_getf f_X8_9_7 (by first | exact MAt.o (by assumption) | exact MAt.a1 (by assumption) | exact MAt.a2 (by assumption) | exact MAt.a3 (by assumption) | exact MAt.a4 (by assumption) | exact MAt.a5 (by assumption) | exact MAt.a6 (by assumption) | exact MAt.a7 (by assumption) | exact MAt.a8 (by assumption) | exact MAt.a9 (by assumption) | exact MAt.a10 (by assumption) | exact MAt.a11 (by assumption) | exact MAt.a12 (by assumption) | exact MAt.a13 (by assumption) | exact MAt.a14 (by assumption) | exact MAt.a15 (by assumption) | exact MAt.a16 (by assumption)) (by rfl) dX8_placeOf_18 ?_
      refine r_bipush (v := nI 6) dX8_placeOf_21 (by decide) ?_
      refine r_iload_n dX8_placeOf_23 rfl ?_
      first | refine r_iadd_n dX8_placeOf_24 ?_ | refine r_iadd dX8_placeOf_24 ?_
      refine r_iald_n (by first | exact MAt.o (by assumption) | exact MAt.a1 (by assumption) | exact MAt.a2 (by assumption) | exact MAt.a3 (by assumption) | exact MAt.a4 (by assumption) | exact MAt.a5 (by assumption) | exact MAt.a6 (by assumption) | exact MAt.a7 (by assumption) | exact MAt.a8 (by assumption) | exact MAt.a9 (by assumption) | exact MAt.a10 (by assumption) | exact MAt.a11 (by assumption) | exact MAt.a12 (by assumption) | exact MAt.a13 (by assumption) | exact MAt.a14 (by assumption) | exact MAt.a15 (by assumption) | exact MAt.a16 (by assumption)) (by rfl) (by omega) (by omega) dX8_placeOf_25 ?_
      first | refine r_icmp_ge_n (tgt := 60) dX8_placeOf_26 (by decide) (by omega) (by omega) (fun h26 => by exfalso; omega) (fun h26 => ?_) | refine r_icmp_ge (tgt := 60) dX8_placeOf_26 (by decide) (fun h26 => by exfalso; omega) (fun h26 => ?_)
      first | refine r_aload_n dX8_placeOf_29 rfl ?_ | refine r_aload_nq dX8_placeOf_29 rfl ?_ | refine r_aload_nN dX8_placeOf_29 rfl ?_
      refine r_getf f_X8_9_7 (by first | exact MAt.o (by assumption) | exact MAt.a1 (by assumption) | exact MAt.a2 (by assumption) | exact MAt.a3 (by assumption) | exact MAt.a4 (by assumption) | exact MAt.a5 (by assumption) | exact MAt.a6 (by assumption) | exact MAt.a7 (by assumption) | exact MAt.a8 (by assumption) | exact MAt.a9 (by assumption) | exact MAt.a10 (by assumption) | exact MAt.a11 (by assumption) | exact MAt.a12 (by assumption) | exact MAt.a13 (by assumption) | exact MAt.a14 (by assumption) | exact MAt.a15 (by assumption) | exact MAt.a16 (by assumption)) (by rfl) dX8_placeOf_30 ?_
      refine r_bipush (v := nI 9) dX8_placeOf_33 (by decide) ?_
      refine r_iconst (v := nI 4) dX8_placeOf_35 (by decide) ?_
      refine r_iload_n dX8_placeOf_36 rfl ?_
      first | refine r_imul_n dX8_placeOf_37 ?_ | refine r_imul dX8_placeOf_37 ?_
      first | refine r_iadd_n dX8_placeOf_38 ?_ | refine r_iadd dX8_placeOf_38 ?_
      refine r_iload dX8_placeOf_39 rfl ?_
      first | refine r_iadd_n dX8_placeOf_41 ?_ | refine r_iadd dX8_placeOf_41 ?_
      refine r_iald_n (by first | exact MAt.o (by assumption) | exact MAt.a1 (by assumption) | exact MAt.a2 (by assumption) | exact MAt.a3 (by assumption) | exact MAt.a4 (by assumption) | exact MAt.a5 (by assumption) | exact MAt.a6 (by assumption) | exact MAt.a7 (by assumption) | exact MAt.a8 (by assumption) | exact MAt.a9 (by assumption) | exact MAt.a10 (by assumption) | exact MAt.a11 (by assumption) | exact MAt.a12 (by assumption) | exact MAt.a13 (by assumption) | exact MAt.a14 (by assumption) | exact MAt.a15 (by assumption) | exact MAt.a16 (by assumption)) (by rfl) (by omega) (by omega) dX8_placeOf_42 ?_
      refine r_iload_n dX8_placeOf_43 rfl ?_
      first | refine r_icmp_ne_n (tgt := 52) dX8_placeOf_44 (by decide) (by omega) (by omega) (fun h44 => ?_) (fun h44 => ?_) | refine r_icmp_ne_pn (tgt := 52) dX8_placeOf_44 (by decide) (by omega) (by omega) (fun h44 => ?_) (fun h44 => ?_) | refine r_icmp_ne_pm (tgt := 52) dX8_placeOf_44 (by decide) (by omega) (fun h44 => ?_) (fun h44 => ?_) | refine r_icmp_ne (tgt := 52) dX8_placeOf_44 (by decide) (fun h44 => ?_) (fun h44 => ?_)
      · refine r_iload_n dX8_placeOf_52 rfl ?_
        refine r_istore_n dX8_placeOf_53 (by decide) ?_
        simp only [mst1, mclr]
        first | refine r_iinc_n 1 dX8_placeOf_54 rfl (by decide) ?_ | refine r_iinc dX8_placeOf_54 rfl rfl (by decide) ?_
        simp only [mst1, mclr]
        refine r_goto (tgt := 15) dX8_placeOf_57 (by decide) ?_
        have e : plF (fun p => A 1 (9 + 4 * A 1 (21 + g) + p)) g (i + 1) = plF (fun p => A 1 (9 + 4 * A 1 (21 + g) + p)) g i := by
          show (if _ then _ else _) = _
          rw [if_neg h44]
        have K := ih (i + 1) (by omega)
        rw [e] at K
        exact K
      · refine r_iload dX8_placeOf_47 rfl ?_
        refine r_goto (tgt := 53) dX8_placeOf_49 (by decide) ?_
        refine r_istore_n dX8_placeOf_53 (by decide) ?_
        simp only [mst1, mclr]
        first | refine r_iinc_n 1 dX8_placeOf_54 rfl (by decide) ?_ | refine r_iinc dX8_placeOf_54 rfl rfl (by decide) ?_
        simp only [mst1, mclr]
        refine r_goto (tgt := 15) dX8_placeOf_57 (by decide) ?_
        have e : plF (fun p => A 1 (9 + 4 * A 1 (21 + g) + p)) g (i + 1) = i + 1 := by
          show (if _ then _ else _) = _
          rw [if_pos h44]
        have K := ih (i + 1) (by omega)
        rw [e] at K
        exact K
  first | refine r_aload_n dX8_placeOf_0 rfl ?_ | refine r_aload_nq dX8_placeOf_0 rfl ?_ | refine r_aload_nN dX8_placeOf_0 rfl ?_
  refine r_getf f_X8_9_7 (by first | exact MAt.o (by assumption) | exact MAt.a1 (by assumption) | exact MAt.a2 (by assumption) | exact MAt.a3 (by assumption) | exact MAt.a4 (by assumption) | exact MAt.a5 (by assumption) | exact MAt.a6 (by assumption) | exact MAt.a7 (by assumption) | exact MAt.a8 (by assumption) | exact MAt.a9 (by assumption) | exact MAt.a10 (by assumption) | exact MAt.a11 (by assumption) | exact MAt.a12 (by assumption) | exact MAt.a13 (by assumption) | exact MAt.a14 (by assumption) | exact MAt.a15 (by assumption) | exact MAt.a16 (by assumption)) (by rfl) dX8_placeOf_1 ?_
  refine r_bipush (v := nI 21) dX8_placeOf_4 (by decide) ?_
  refine r_iload_n dX8_placeOf_6 rfl ?_
  first | refine r_iadd_n dX8_placeOf_7 ?_ | refine r_iadd dX8_placeOf_7 ?_
  refine r_iald_n (by first | exact MAt.o (by assumption) | exact MAt.a1 (by assumption) | exact MAt.a2 (by assumption) | exact MAt.a3 (by assumption) | exact MAt.a4 (by assumption) | exact MAt.a5 (by assumption) | exact MAt.a6 (by assumption) | exact MAt.a7 (by assumption) | exact MAt.a8 (by assumption) | exact MAt.a9 (by assumption) | exact MAt.a10 (by assumption) | exact MAt.a11 (by assumption) | exact MAt.a12 (by assumption) | exact MAt.a13 (by assumption) | exact MAt.a14 (by assumption) | exact MAt.a15 (by assumption) | exact MAt.a16 (by assumption)) (by rfl) (by omega) (by omega) dX8_placeOf_8 ?_
  refine r_istore_n dX8_placeOf_9 (by decide) ?_
  simp only [mst1, mclr]
  refine r_iconst (v := -1) dX8_placeOf_10 (by decide) ?_
  refine r_istore_n dX8_placeOf_11 (by decide) ?_
  simp only [mst1, mclr]
  refine r_iconst (v := nI 0) dX8_placeOf_12 (by decide) ?_
  refine r_istore dX8_placeOf_13 (by decide) ?_
  simp only [mst1, mclr]
  exact loop _ 0 (Nat.zero_add _)
theorem m_keep (h : MAt B M m F D A) (hb : mGb G ≤ m) (hq : ∀ M, MAt B M m (fU F 6 0) D (fA A 2 (va_cpy (A 1) (A 2) 0 0 109)) → Q (.inl none) M t u) : mMet G d zX8_keep [.ref m] M t u Q := by
  refine m_intro (by decide +kernel) ⟨Nat.le_of_ble_eq_true rfl, Nat.le_of_ble_eq_true rfl⟩ ?_
  show mW G _ _ 0 [some (.ref m)] [] _ _ _ _
  first | refine r_aload_n dX8_keep_0 rfl ?_ | refine r_aload_nq dX8_keep_0 rfl ?_ | refine r_aload_nN dX8_keep_0 rfl ?_
  refine r_iconst (v := nI 0) dX8_keep_1 (by decide) ?_
  refine r_putf f_X8_64_7 ft_7_6 (by first | exact MAt.o (by assumption) | exact MAt.a1 (by assumption) | exact MAt.a2 (by assumption) | exact MAt.a3 (by assumption) | exact MAt.a4 (by assumption) | exact MAt.a5 (by assumption) | exact MAt.a6 (by assumption) | exact MAt.a7 (by assumption) | exact MAt.a8 (by assumption) | exact MAt.a9 (by assumption) | exact MAt.a10 (by assumption) | exact MAt.a11 (by assumption) | exact MAt.a12 (by assumption) | exact MAt.a13 (by assumption) | exact MAt.a14 (by assumption) | exact MAt.a15 (by assumption) | exact MAt.a16 (by assumption)) (by omega) (by first | rfl | exact bI_nar _) (by first | rfl | exact bI_fit _) dX8_keep_2 ?_
  refine MAt.p6 (by assumption) (fun M hM => ?_)
  first | refine r_aload_n dX8_keep_5 rfl ?_ | refine r_aload_nq dX8_keep_5 rfl ?_ | refine r_aload_nN dX8_keep_5 rfl ?_
  refine r_getf f_X8_9_7 (by first | exact MAt.o (by assumption) | exact MAt.a1 (by assumption) | exact MAt.a2 (by assumption) | exact MAt.a3 (by assumption) | exact MAt.a4 (by assumption) | exact MAt.a5 (by assumption) | exact MAt.a6 (by assumption) | exact MAt.a7 (by assumption) | exact MAt.a8 (by assumption) | exact MAt.a9 (by assumption) | exact MAt.a10 (by assumption) | exact MAt.a11 (by assumption) | exact MAt.a12 (by assumption) | exact MAt.a13 (by assumption) | exact MAt.a14 (by assumption) | exact MAt.a15 (by assumption) | exact MAt.a16 (by assumption)) (by rfl) dX8_keep_6 ?_
  refine r_iconst (v := nI 0) dX8_keep_9 (by decide) ?_
  first | refine r_aload_n dX8_keep_10 rfl ?_ | refine r_aload_nq dX8_keep_10 rfl ?_ | refine r_aload_nN dX8_keep_10 rfl ?_
  refine r_getf f_X8_13_7 (by first | exact MAt.o (by assumption) | exact MAt.a1 (by assumption) | exact MAt.a2 (by assumption) | exact MAt.a3 (by assumption) | exact MAt.a4 (by assumption) | exact MAt.a5 (by assumption) | exact MAt.a6 (by assumption) | exact MAt.a7 (by assumption) | exact MAt.a8 (by assumption) | exact MAt.a9 (by assumption) | exact MAt.a10 (by assumption) | exact MAt.a11 (by assumption) | exact MAt.a12 (by assumption) | exact MAt.a13 (by assumption) | exact MAt.a14 (by assumption) | exact MAt.a15 (by assumption) | exact MAt.a16 (by assumption)) (by rfl) dX8_keep_11 ?_
  refine r_iconst (v := nI 0) dX8_keep_14 (by decide) ?_
  refine r_bipush (v := nI 109) dX8_keep_15 (by decide) ?_
  refine r_mcopy (by first | exact MAt.o (by assumption) | exact MAt.a1 (by assumption) | exact MAt.a2 (by assumption) | exact MAt.a3 (by assumption) | exact MAt.a4 (by assumption) | exact MAt.a5 (by assumption) | exact MAt.a6 (by assumption) | exact MAt.a7 (by assumption) | exact MAt.a8 (by assumption) | exact MAt.a9 (by assumption) | exact MAt.a10 (by assumption) | exact MAt.a11 (by assumption) | exact MAt.a12 (by assumption) | exact MAt.a13 (by assumption) | exact MAt.a14 (by assumption) | exact MAt.a15 (by assumption) | exact MAt.a16 (by assumption)) (by first | exact MAt.o (by assumption) | exact MAt.a1 (by assumption) | exact MAt.a2 (by assumption) | exact MAt.a3 (by assumption) | exact MAt.a4 (by assumption) | exact MAt.a5 (by assumption) | exact MAt.a6 (by assumption) | exact MAt.a7 (by assumption) | exact MAt.a8 (by assumption) | exact MAt.a9 (by assumption) | exact MAt.a10 (by assumption) | exact MAt.a11 (by assumption) | exact MAt.a12 (by assumption) | exact MAt.a13 (by assumption) | exact MAt.a14 (by assumption) | exact MAt.a15 (by assumption) | exact MAt.a16 (by assumption)) q1836 (by omega) (by omega) (by decide) (by decide) (by omega) (Nat.le_of_ble_eq_true rfl) dX8_keep_17 ?_
  first | refine MAt.k1 (by assumption) (fun M hM => ?_) | refine MAt.k2 (by assumption) (fun M hM => ?_) | refine MAt.k3 (by assumption) (fun M hM => ?_) | refine MAt.k4 (by assumption) (fun M hM => ?_)
  refine r_vret rfl dX8_keep_20 ?_
  exact hq _ hM
theorem m_endsX (h : MAt B M m F D A) (hb : mGb G ≤ m) (v : Int32) (h6 : 0 < F 6) (h6b : F 6 < 10) (hq : ∀ M, MAt B M m F D (fA A 1 (va_cpy (A 2) (A 1) 0 0 109)) → Q (.inl (some (.int 0))) M t u) : mMet G d zX8_ends [.ref m, .int v] M t u Q := by
  refine m_intro (by decide +kernel) ⟨Nat.le_of_ble_eq_true rfl, Nat.le_of_ble_eq_true rfl⟩ ?_
  show mW G _ _ 0 [some (.ref m), some (.int v)] [] _ _ _ _
  first | refine r_aload_n dX8_ends_0 rfl ?_ | refine r_aload_nq dX8_ends_0 rfl ?_ | refine r_aload_nN dX8_ends_0 rfl ?_
  refine r_getf f_X8_64_7 (by first | exact MAt.o (by assumption) | exact MAt.a1 (by assumption) | exact MAt.a2 (by assumption) | exact MAt.a3 (by assumption) | exact MAt.a4 (by assumption) | exact MAt.a5 (by assumption) | exact MAt.a6 (by assumption) | exact MAt.a7 (by assumption) | exact MAt.a8 (by assumption) | exact MAt.a9 (by assumption) | exact MAt.a10 (by assumption) | exact MAt.a11 (by assumption) | exact MAt.a12 (by assumption) | exact MAt.a13 (by assumption) | exact MAt.a14 (by assumption) | exact MAt.a15 (by assumption) | exact MAt.a16 (by assumption)) (by rfl) dX8_ends_1 ?_
  first | refine r_if_le_n (tgt := 24) dX8_ends_4 (by decide) (by omega) (fun h4 => by exfalso; omega) (fun h4 => ?_) | refine r_if_le (tgt := 24) dX8_ends_4 (by decide) (fun h4 => by exfalso; omega) (fun h4 => ?_)
  first | refine r_aload_n dX8_ends_7 rfl ?_ | refine r_aload_nq dX8_ends_7 rfl ?_ | refine r_aload_nN dX8_ends_7 rfl ?_
  refine r_getf f_X8_13_7 (by first | exact MAt.o (by assumption) | exact MAt.a1 (by assumption) | exact MAt.a2 (by assumption) | exact MAt.a3 (by assumption) | exact MAt.a4 (by assumption) | exact MAt.a5 (by assumption) | exact MAt.a6 (by assumption) | exact MAt.a7 (by assumption) | exact MAt.a8 (by assumption) | exact MAt.a9 (by assumption) | exact MAt.a10 (by assumption) | exact MAt.a11 (by assumption) | exact MAt.a12 (by assumption) | exact MAt.a13 (by assumption) | exact MAt.a14 (by assumption) | exact MAt.a15 (by assumption) | exact MAt.a16 (by assumption)) (by rfl) dX8_ends_8 ?_
  refine r_iconst (v := nI 0) dX8_ends_11 (by decide) ?_
  first | refine r_aload_n dX8_ends_12 rfl ?_ | refine r_aload_nq dX8_ends_12 rfl ?_ | refine r_aload_nN dX8_ends_12 rfl ?_
  refine r_getf f_X8_9_7 (by first | exact MAt.o (by assumption) | exact MAt.a1 (by assumption) | exact MAt.a2 (by assumption) | exact MAt.a3 (by assumption) | exact MAt.a4 (by assumption) | exact MAt.a5 (by assumption) | exact MAt.a6 (by assumption) | exact MAt.a7 (by assumption) | exact MAt.a8 (by assumption) | exact MAt.a9 (by assumption) | exact MAt.a10 (by assumption) | exact MAt.a11 (by assumption) | exact MAt.a12 (by assumption) | exact MAt.a13 (by assumption) | exact MAt.a14 (by assumption) | exact MAt.a15 (by assumption) | exact MAt.a16 (by assumption)) (by rfl) dX8_ends_13 ?_
  refine r_iconst (v := nI 0) dX8_ends_16 (by decide) ?_
  refine r_bipush (v := nI 109) dX8_ends_17 (by decide) ?_
  refine r_mcopy (by first | exact MAt.o (by assumption) | exact MAt.a1 (by assumption) | exact MAt.a2 (by assumption) | exact MAt.a3 (by assumption) | exact MAt.a4 (by assumption) | exact MAt.a5 (by assumption) | exact MAt.a6 (by assumption) | exact MAt.a7 (by assumption) | exact MAt.a8 (by assumption) | exact MAt.a9 (by assumption) | exact MAt.a10 (by assumption) | exact MAt.a11 (by assumption) | exact MAt.a12 (by assumption) | exact MAt.a13 (by assumption) | exact MAt.a14 (by assumption) | exact MAt.a15 (by assumption) | exact MAt.a16 (by assumption)) (by first | exact MAt.o (by assumption) | exact MAt.a1 (by assumption) | exact MAt.a2 (by assumption) | exact MAt.a3 (by assumption) | exact MAt.a4 (by assumption) | exact MAt.a5 (by assumption) | exact MAt.a6 (by assumption) | exact MAt.a7 (by assumption) | exact MAt.a8 (by assumption) | exact MAt.a9 (by assumption) | exact MAt.a10 (by assumption) | exact MAt.a11 (by assumption) | exact MAt.a12 (by assumption) | exact MAt.a13 (by assumption) | exact MAt.a14 (by assumption) | exact MAt.a15 (by assumption) | exact MAt.a16 (by assumption)) q1836 (by omega) (by omega) (by decide) (by decide) (by omega) (Nat.le_of_ble_eq_true rfl) dX8_ends_19 ?_
  first | refine MAt.k1 (by assumption) (fun M hM => ?_) | refine MAt.k2 (by assumption) (fun M hM => ?_) | refine MAt.k3 (by assumption) (fun M hM => ?_) | refine MAt.k4 (by assumption) (fun M hM => ?_)
  refine r_iconst (v := nI 0) dX8_ends_22 (by decide) ?_
  refine r_iret rfl (by first | rfl | exact bI_nar _) dX8_ends_23 ?_
  exact hq _ hM
theorem m_ends (h : MAt B M m F D A) (hb : mGb G ≤ m) (v : Int32) (h6 : F 6 = 0) (h5 : F 5 ≤ 8) (h2 : A 1 2 < 2000)
    (hq : ∀ (M : mM) (F' : Nat → Nat) (A' : Nat → Nat → Nat), MAt B M m F' D A' → F' 5 = (if F 5 = 8 then 8 else F 5 + 1) → (∀ k, k ≠ 5 → F' k = F k) → (A' 1 = fU (A 1) 2 (A 1 2 + 1)) → (∀ i, i ≠ 1 → i ≠ 4 → A' i = A i) →
      (∀ i j, i + 1 < F' 5 → j < 109 → A' 4 (109 * i + j) = A 4 (109 * (if F 5 = 8 then i + 1 else i) + j)) → (∀ j, j < 109 → A' 4 (109 * (F' 5 - 1) + j) = A 2 j) → Q (.inl (some (.int v))) M t u) : mMet G d zX8_ends [.ref m, .int v] M t u Q := by
  refine m_intro (by decide +kernel) ⟨Nat.le_of_ble_eq_true rfl, Nat.le_of_ble_eq_true rfl⟩ ?_
  show mW G _ _ 0 [some (.ref m), some (.int v)] [] _ _ _ _
  have rest : ∀ (M : mM) (F' : Nat → Nat) (A' : Nat → Nat → Nat), MAt B M m F' D A' → F' 5 < 8 → A' 1 2 < 2000 → mGb G ≤ m →
      (∀ (M : mM) , MAt B M m (fU F' 5 (F' 5 + 1)) D (fA (fA A' 4 (va_cpy (A' 2) (A' 4) 0 (109 * F' 5) 109)) 1 (fU (A' 1) 2 (A' 1 2 + 1))) → Q (.inl (some (.int v))) M t u) → mW G zX8_ends d 60 [some (.ref m), some (.int v)] [] M t u Q := by
    intro M F' A' h h5 h2 hb hq
    first | refine r_aload_n dX8_ends_60 rfl ?_ | refine r_aload_nq dX8_ends_60 rfl ?_ | refine r_aload_nN dX8_ends_60 rfl ?_
    refine r_getf f_X8_13_7 (by first | exact MAt.o (by assumption) | exact MAt.a1 (by assumption) | exact MAt.a2 (by assumption) | exact MAt.a3 (by assumption) | exact MAt.a4 (by assumption) | exact MAt.a5 (by assumption) | exact MAt.a6 (by assumption) | exact MAt.a7 (by assumption) | exact MAt.a8 (by assumption) | exact MAt.a9 (by assumption) | exact MAt.a10 (by assumption) | exact MAt.a11 (by assumption) | exact MAt.a12 (by assumption) | exact MAt.a13 (by assumption) | exact MAt.a14 (by assumption) | exact MAt.a15 (by assumption) | exact MAt.a16 (by assumption)) (by rfl) dX8_ends_61 ?_
    refine r_iconst (v := nI 0) dX8_ends_64 (by decide) ?_
    first | refine r_aload_n dX8_ends_65 rfl ?_ | refine r_aload_nq dX8_ends_65 rfl ?_ | refine r_aload_nN dX8_ends_65 rfl ?_
    refine r_getf f_X8_19_7 (by first | exact MAt.o (by assumption) | exact MAt.a1 (by assumption) | exact MAt.a2 (by assumption) | exact MAt.a3 (by assumption) | exact MAt.a4 (by assumption) | exact MAt.a5 (by assumption) | exact MAt.a6 (by assumption) | exact MAt.a7 (by assumption) | exact MAt.a8 (by assumption) | exact MAt.a9 (by assumption) | exact MAt.a10 (by assumption) | exact MAt.a11 (by assumption) | exact MAt.a12 (by assumption) | exact MAt.a13 (by assumption) | exact MAt.a14 (by assumption) | exact MAt.a15 (by assumption) | exact MAt.a16 (by assumption)) (by rfl) dX8_ends_66 ?_
    refine r_bipush (v := nI 109) dX8_ends_69 (by decide) ?_
    first | refine r_aload_n dX8_ends_71 rfl ?_ | refine r_aload_nq dX8_ends_71 rfl ?_ | refine r_aload_nN dX8_ends_71 rfl ?_
    refine r_getf f_X8_73_7 (by first | exact MAt.o (by assumption) | exact MAt.a1 (by assumption) | exact MAt.a2 (by assumption) | exact MAt.a3 (by assumption) | exact MAt.a4 (by assumption) | exact MAt.a5 (by assumption) | exact MAt.a6 (by assumption) | exact MAt.a7 (by assumption) | exact MAt.a8 (by assumption) | exact MAt.a9 (by assumption) | exact MAt.a10 (by assumption) | exact MAt.a11 (by assumption) | exact MAt.a12 (by assumption) | exact MAt.a13 (by assumption) | exact MAt.a14 (by assumption) | exact MAt.a15 (by assumption) | exact MAt.a16 (by assumption)) (by rfl) dX8_ends_72 ?_
    first | refine r_imul_n dX8_ends_75 ?_ | refine r_imul dX8_ends_75 ?_
    refine r_bipush (v := nI 109) dX8_ends_76 (by decide) ?_
    refine r_mcopy (by first | exact MAt.o (by assumption) | exact MAt.a1 (by assumption) | exact MAt.a2 (by assumption) | exact MAt.a3 (by assumption) | exact MAt.a4 (by assumption) | exact MAt.a5 (by assumption) | exact MAt.a6 (by assumption) | exact MAt.a7 (by assumption) | exact MAt.a8 (by assumption) | exact MAt.a9 (by assumption) | exact MAt.a10 (by assumption) | exact MAt.a11 (by assumption) | exact MAt.a12 (by assumption) | exact MAt.a13 (by assumption) | exact MAt.a14 (by assumption) | exact MAt.a15 (by assumption) | exact MAt.a16 (by assumption)) (by first | exact MAt.o (by assumption) | exact MAt.a1 (by assumption) | exact MAt.a2 (by assumption) | exact MAt.a3 (by assumption) | exact MAt.a4 (by assumption) | exact MAt.a5 (by assumption) | exact MAt.a6 (by assumption) | exact MAt.a7 (by assumption) | exact MAt.a8 (by assumption) | exact MAt.a9 (by assumption) | exact MAt.a10 (by assumption) | exact MAt.a11 (by assumption) | exact MAt.a12 (by assumption) | exact MAt.a13 (by assumption) | exact MAt.a14 (by assumption) | exact MAt.a15 (by assumption) | exact MAt.a16 (by assumption)) q1836 (by omega) (by omega) (by decide) (by decide) (by omega) (Nat.le_of_ble_eq_true rfl) dX8_ends_78 ?_
    first | refine MAt.k1 (by assumption) (fun M hM => ?_) | refine MAt.k2 (by assumption) (fun M hM => ?_) | refine MAt.k3 (by assumption) (fun M hM => ?_) | refine MAt.k4 (by assumption) (fun M hM => ?_)
    first | refine r_aload_n dX8_ends_81 rfl ?_ | refine r_aload_nq dX8_ends_81 rfl ?_ | refine r_aload_nN dX8_ends_81 rfl ?_
    refine r_dup dX8_ends_82 (by rfl) ?_
    refine r_getf f_X8_73_7 (by first | exact MAt.o (by assumption) | exact MAt.a1 (by assumption) | exact MAt.a2 (by assumption) | exact MAt.a3 (by assumption) | exact MAt.a4 (by assumption) | exact MAt.a5 (by assumption) | exact MAt.a6 (by assumption) | exact MAt.a7 (by assumption) | exact MAt.a8 (by assumption) | exact MAt.a9 (by assumption) | exact MAt.a10 (by assumption) | exact MAt.a11 (by assumption) | exact MAt.a12 (by assumption) | exact MAt.a13 (by assumption) | exact MAt.a14 (by assumption) | exact MAt.a15 (by assumption) | exact MAt.a16 (by assumption)) (by rfl) dX8_ends_83 ?_
    refine r_iconst (v := nI 1) dX8_ends_86 (by decide) ?_
    first | refine r_iadd_n dX8_ends_87 ?_ | refine r_iadd dX8_ends_87 ?_
    refine r_putf f_X8_73_7 ft_7_5 (by first | exact MAt.o (by assumption) | exact MAt.a1 (by assumption) | exact MAt.a2 (by assumption) | exact MAt.a3 (by assumption) | exact MAt.a4 (by assumption) | exact MAt.a5 (by assumption) | exact MAt.a6 (by assumption) | exact MAt.a7 (by assumption) | exact MAt.a8 (by assumption) | exact MAt.a9 (by assumption) | exact MAt.a10 (by assumption) | exact MAt.a11 (by assumption) | exact MAt.a12 (by assumption) | exact MAt.a13 (by assumption) | exact MAt.a14 (by assumption) | exact MAt.a15 (by assumption) | exact MAt.a16 (by assumption)) (by omega) (by first | rfl | exact bI_nar _) (by first | rfl | exact bI_fit _) dX8_ends_88 ?_
    refine MAt.p5 (by assumption) (fun M hM => ?_)
    first | refine r_aload_n dX8_ends_91 rfl ?_ | refine r_aload_nq dX8_ends_91 rfl ?_ | refine r_aload_nN dX8_ends_91 rfl ?_
    refine r_getf f_X8_9_7 (by first | exact MAt.o (by assumption) | exact MAt.a1 (by assumption) | exact MAt.a2 (by assumption) | exact MAt.a3 (by assumption) | exact MAt.a4 (by assumption) | exact MAt.a5 (by assumption) | exact MAt.a6 (by assumption) | exact MAt.a7 (by assumption) | exact MAt.a8 (by assumption) | exact MAt.a9 (by assumption) | exact MAt.a10 (by assumption) | exact MAt.a11 (by assumption) | exact MAt.a12 (by assumption) | exact MAt.a13 (by assumption) | exact MAt.a14 (by assumption) | exact MAt.a15 (by assumption) | exact MAt.a16 (by assumption)) (by rfl) dX8_ends_92 ?_
    refine r_iconst (v := nI 2) dX8_ends_95 (by decide) ?_
    refine r_dup2 dX8_ends_96 (by rfl) (by rfl) ?_
    refine r_iald_n (by first | exact MAt.o (by assumption) | exact MAt.a1 (by assumption) | exact MAt.a2 (by assumption) | exact MAt.a3 (by assumption) | exact MAt.a4 (by assumption) | exact MAt.a5 (by assumption) | exact MAt.a6 (by assumption) | exact MAt.a7 (by assumption) | exact MAt.a8 (by assumption) | exact MAt.a9 (by assumption) | exact MAt.a10 (by assumption) | exact MAt.a11 (by assumption) | exact MAt.a12 (by assumption) | exact MAt.a13 (by assumption) | exact MAt.a14 (by assumption) | exact MAt.a15 (by assumption) | exact MAt.a16 (by assumption)) (by rfl) (by omega) (by omega) dX8_ends_97 ?_
    refine r_iconst (v := nI 1) dX8_ends_98 (by decide) ?_
    first | refine r_iadd_n dX8_ends_99 ?_ | refine r_iadd dX8_ends_99 ?_
    refine r_iast_n (by first | exact MAt.o (by assumption) | exact MAt.a1 (by assumption) | exact MAt.a2 (by assumption) | exact MAt.a3 (by assumption) | exact MAt.a4 (by assumption) | exact MAt.a5 (by assumption) | exact MAt.a6 (by assumption) | exact MAt.a7 (by assumption) | exact MAt.a8 (by assumption) | exact MAt.a9 (by assumption) | exact MAt.a10 (by assumption) | exact MAt.a11 (by assumption) | exact MAt.a12 (by assumption) | exact MAt.a13 (by assumption) | exact MAt.a14 (by assumption) | exact MAt.a15 (by assumption) | exact MAt.a16 (by assumption)) (by rfl) (by omega) (by omega) (by omega) dX8_ends_100 ?_
    first | refine MAt.g1 (by assumption) (fun M hM => ?_) | refine MAt.g2 (by assumption) (fun M hM => ?_) | refine MAt.g3 (by assumption) (fun M hM => ?_) | refine MAt.g4 (by assumption) (fun M hM => ?_) | refine MAt.g5 (by assumption) (fun M hM => ?_) | refine MAt.g6 (by assumption) (fun M hM => ?_) | refine MAt.g7 (by assumption) (fun M hM => ?_) | refine MAt.g8 (by assumption) (fun M hM => ?_) | refine MAt.g9 (by assumption) (fun M hM => ?_) | refine MAt.g16 (by assumption) (fun M hM => ?_) | refine MAt.g10 _ (by assumption) ?_ (fun M hM => ?_) | refine MAt.g11 _ (by assumption) ?_ (fun M hM => ?_) | refine MAt.g12 _ (by assumption) ?_ (fun M hM => ?_)
    refine r_iload_n dX8_ends_101 rfl ?_
    refine r_iret rfl (by first | rfl | exact bI_nar _) dX8_ends_102 ?_
    exact hq _ hM
  first | refine r_aload_n dX8_ends_0 rfl ?_ | refine r_aload_nq dX8_ends_0 rfl ?_ | refine r_aload_nN dX8_ends_0 rfl ?_
  refine r_getf f_X8_64_7 (by first | exact MAt.o (by assumption) | exact MAt.a1 (by assumption) | exact MAt.a2 (by assumption) | exact MAt.a3 (by assumption) | exact MAt.a4 (by assumption) | exact MAt.a5 (by assumption) | exact MAt.a6 (by assumption) | exact MAt.a7 (by assumption) | exact MAt.a8 (by assumption) | exact MAt.a9 (by assumption) | exact MAt.a10 (by assumption) | exact MAt.a11 (by assumption) | exact MAt.a12 (by assumption) | exact MAt.a13 (by assumption) | exact MAt.a14 (by assumption) | exact MAt.a15 (by assumption) | exact MAt.a16 (by assumption)) (by rfl) dX8_ends_1 ?_
  first | refine r_if_le_n (tgt := 24) dX8_ends_4 (by decide) (by omega) (fun h4 => ?_) (fun h4 => by exfalso; omega) | refine r_if_le (tgt := 24) dX8_ends_4 (by decide) (fun h4 => ?_) (fun h4 => by exfalso; omega)
  first | refine r_aload_n dX8_ends_24 rfl ?_ | refine r_aload_nq dX8_ends_24 rfl ?_ | refine r_aload_nN dX8_ends_24 rfl ?_
  refine r_getf f_X8_73_7 (by first | exact MAt.o (by assumption) | exact MAt.a1 (by assumption) | exact MAt.a2 (by assumption) | exact MAt.a3 (by assumption) | exact MAt.a4 (by assumption) | exact MAt.a5 (by assumption) | exact MAt.a6 (by assumption) | exact MAt.a7 (by assumption) | exact MAt.a8 (by assumption) | exact MAt.a9 (by assumption) | exact MAt.a10 (by assumption) | exact MAt.a11 (by assumption) | exact MAt.a12 (by assumption) | exact MAt.a13 (by assumption) | exact MAt.a14 (by assumption) | exact MAt.a15 (by assumption) | exact MAt.a16 (by assumption)) (by rfl) dX8_ends_25 ?_
  refine r_bipush (v := nI 8) dX8_ends_28 (by decide) ?_
  first | refine r_icmp_ne_n (tgt := 60) dX8_ends_30 (by decide) (by omega) (by omega) (fun h30 => ?_) (fun h30 => ?_) | refine r_icmp_ne_pn (tgt := 60) dX8_ends_30 (by decide) (by omega) (by omega) (fun h30 => ?_) (fun h30 => ?_) | refine r_icmp_ne_pm (tgt := 60) dX8_ends_30 (by decide) (by omega) (fun h30 => ?_) (fun h30 => ?_) | refine r_icmp_ne (tgt := 60) dX8_ends_30 (by decide) (fun h30 => ?_) (fun h30 => ?_)
  · refine rest M F A h (by omega) h2 hb (fun M hM => hq M _ _ hM ?_ ?_ ?_ ?_ ?_ ?_)
    · rw [if_neg h30]; simp [fU]
    · intro k hk; simp [fU, hk]
    · simp [fA]
    · intro i h1 h4; simp [fA, h1, h4]
    · intro i j hi hj
      rw [if_neg h30]
      simp only [fU_eq] at hi
      have : ¬ (109 * F 5 ≤ 109 * i + j ∧ 109 * i + j < 109 * F 5 + 109) := by omega
      simp [fA, va_cpy, this]
    · intro j hj
      simp only [fU_eq, Nat.add_sub_cancel]
      have : 109 * F 5 ≤ 109 * F 5 + j ∧ 109 * F 5 + j < 109 * F 5 + 109 := by omega
      simp [fA, va_cpy, this]
  · first | refine r_aload_n dX8_ends_33 rfl ?_ | refine r_aload_nq dX8_ends_33 rfl ?_ | refine r_aload_nN dX8_ends_33 rfl ?_
    refine r_getf f_X8_19_7 (by first | exact MAt.o (by assumption) | exact MAt.a1 (by assumption) | exact MAt.a2 (by assumption) | exact MAt.a3 (by assumption) | exact MAt.a4 (by assumption) | exact MAt.a5 (by assumption) | exact MAt.a6 (by assumption) | exact MAt.a7 (by assumption) | exact MAt.a8 (by assumption) | exact MAt.a9 (by assumption) | exact MAt.a10 (by assumption) | exact MAt.a11 (by assumption) | exact MAt.a12 (by assumption) | exact MAt.a13 (by assumption) | exact MAt.a14 (by assumption) | exact MAt.a15 (by assumption) | exact MAt.a16 (by assumption)) (by rfl) dX8_ends_34 ?_
    refine r_bipush (v := nI 109) dX8_ends_37 (by decide) ?_
    first | refine r_aload_n dX8_ends_39 rfl ?_ | refine r_aload_nq dX8_ends_39 rfl ?_ | refine r_aload_nN dX8_ends_39 rfl ?_
    refine r_getf f_X8_19_7 (by first | exact MAt.o (by assumption) | exact MAt.a1 (by assumption) | exact MAt.a2 (by assumption) | exact MAt.a3 (by assumption) | exact MAt.a4 (by assumption) | exact MAt.a5 (by assumption) | exact MAt.a6 (by assumption) | exact MAt.a7 (by assumption) | exact MAt.a8 (by assumption) | exact MAt.a9 (by assumption) | exact MAt.a10 (by assumption) | exact MAt.a11 (by assumption) | exact MAt.a12 (by assumption) | exact MAt.a13 (by assumption) | exact MAt.a14 (by assumption) | exact MAt.a15 (by assumption) | exact MAt.a16 (by assumption)) (by rfl) dX8_ends_40 ?_
    refine r_iconst (v := nI 0) dX8_ends_43 (by decide) ?_
    refine r_sipush (v := nI 763) dX8_ends_44 (by decide) ?_
    refine r_mcopy (by first | exact MAt.o (by assumption) | exact MAt.a1 (by assumption) | exact MAt.a2 (by assumption) | exact MAt.a3 (by assumption) | exact MAt.a4 (by assumption) | exact MAt.a5 (by assumption) | exact MAt.a6 (by assumption) | exact MAt.a7 (by assumption) | exact MAt.a8 (by assumption) | exact MAt.a9 (by assumption) | exact MAt.a10 (by assumption) | exact MAt.a11 (by assumption) | exact MAt.a12 (by assumption) | exact MAt.a13 (by assumption) | exact MAt.a14 (by assumption) | exact MAt.a15 (by assumption) | exact MAt.a16 (by assumption)) (by first | exact MAt.o (by assumption) | exact MAt.a1 (by assumption) | exact MAt.a2 (by assumption) | exact MAt.a3 (by assumption) | exact MAt.a4 (by assumption) | exact MAt.a5 (by assumption) | exact MAt.a6 (by assumption) | exact MAt.a7 (by assumption) | exact MAt.a8 (by assumption) | exact MAt.a9 (by assumption) | exact MAt.a10 (by assumption) | exact MAt.a11 (by assumption) | exact MAt.a12 (by assumption) | exact MAt.a13 (by assumption) | exact MAt.a14 (by assumption) | exact MAt.a15 (by assumption) | exact MAt.a16 (by assumption)) q1836 (by omega) (by omega) (by decide) (by decide) (by omega) (Nat.le_of_ble_eq_true rfl) dX8_ends_47 ?_
    first | refine MAt.k1 (by assumption) (fun M hM => ?_) | refine MAt.k2 (by assumption) (fun M hM => ?_) | refine MAt.k3 (by assumption) (fun M hM => ?_) | refine MAt.k4 (by assumption) (fun M hM => ?_)
    first | refine r_aload_n dX8_ends_50 rfl ?_ | refine r_aload_nq dX8_ends_50 rfl ?_ | refine r_aload_nN dX8_ends_50 rfl ?_
    refine r_dup dX8_ends_51 (by rfl) ?_
    refine r_getf f_X8_73_7 (by first | exact MAt.o (by assumption) | exact MAt.a1 (by assumption) | exact MAt.a2 (by assumption) | exact MAt.a3 (by assumption) | exact MAt.a4 (by assumption) | exact MAt.a5 (by assumption) | exact MAt.a6 (by assumption) | exact MAt.a7 (by assumption) | exact MAt.a8 (by assumption) | exact MAt.a9 (by assumption) | exact MAt.a10 (by assumption) | exact MAt.a11 (by assumption) | exact MAt.a12 (by assumption) | exact MAt.a13 (by assumption) | exact MAt.a14 (by assumption) | exact MAt.a15 (by assumption) | exact MAt.a16 (by assumption)) (by rfl) dX8_ends_52 ?_
    refine r_iconst (v := nI 1) dX8_ends_55 (by decide) ?_
    first | refine r_isub_n dX8_ends_56 (by omega) ?_ | refine r_isub dX8_ends_56 ?_
    refine r_putf f_X8_73_7 ft_7_5 (by first | exact MAt.o (by assumption) | exact MAt.a1 (by assumption) | exact MAt.a2 (by assumption) | exact MAt.a3 (by assumption) | exact MAt.a4 (by assumption) | exact MAt.a5 (by assumption) | exact MAt.a6 (by assumption) | exact MAt.a7 (by assumption) | exact MAt.a8 (by assumption) | exact MAt.a9 (by assumption) | exact MAt.a10 (by assumption) | exact MAt.a11 (by assumption) | exact MAt.a12 (by assumption) | exact MAt.a13 (by assumption) | exact MAt.a14 (by assumption) | exact MAt.a15 (by assumption) | exact MAt.a16 (by assumption)) (by omega) (by first | rfl | exact bI_nar _) (by first | rfl | exact bI_fit _) dX8_ends_57 ?_
    refine MAt.p5 (by assumption) (fun M hM => ?_)
    refine rest _ _ _ hM ?_ ?_ hb (fun M hM => hq M _ _ hM ?_ ?_ ?_ ?_ ?_ ?_)
    · simp [fU, h30]
    · simpa [fA] using h2
    · rw [if_pos h30]; simp [fU, h30]
    · intro k hk; simp [fU, hk]
    · simp [fA]
    · intro i h1 h4; simp [fA, h1, h4]
    · intro i j hi hj
      rw [if_pos h30]
      simp [fU, h30] at hi
      have e1 : ¬ (109 * 7 ≤ 109 * i + j ∧ 109 * i + j < 109 * 7 + 109) := by omega
      have e2 : 109 * i + j < 763 := by omega
      simp [fA, va_cpy, h30, fU, e1, e2]
      congr 1; omega
    · intro j hj
      have e1 : 109 * 7 ≤ 109 * 7 + j ∧ 109 * 7 + j < 109 * 7 + 109 := by omega
      simp [fA, va_cpy, fU, h30, e1]
end MOD2
