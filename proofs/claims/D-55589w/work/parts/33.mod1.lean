/-! ===== the model, its small methods ===== -/
section MOD1
variable {G : mG} {d : Nat} {B M : mM} {m t u : Nat} {F : Nat → Nat} {D : Int32} {A : Nat → Nat → Nat} {Q : mQt}
theorem m_in (v lo hi : Int32) (hq : ∀ r : Int32, r = bI (decide (lo ≤ v) && decide (v ≤ hi)) → Q (.inl (some (.int r))) M t u) : mMet G d zX8_in [.int v, .int lo, .int hi] M t u Q := by
  refine m_intro (by decide +kernel) ⟨Nat.le_of_ble_eq_true rfl, Nat.le_of_ble_eq_true rfl⟩ ?_
  show mW G _ _ 0 [some (.int v), some (.int lo), some (.int hi)] [] _ _ _ _
  refine r_iload_n dX8_in_0 rfl ?_
  refine r_iload_n dX8_in_1 rfl ?_
  first | refine r_icmp_lt_n (tgt := 14) dX8_in_2 (by decide) (by omega) (by omega) (fun h2 => ?_) (fun h2 => ?_) | refine r_icmp_lt (tgt := 14) dX8_in_2 (by decide) (fun h2 => ?_) (fun h2 => ?_)
  · refine r_iconst (v := nI 0) dX8_in_14 (by decide) ?_
    refine r_iret rfl (by first | rfl | exact bI_nar _) dX8_in_15 ?_
    exact hq _ (by simp [bI, Int32.not_le.mpr h2]; rfl)
  · refine r_iload_n dX8_in_5 rfl ?_
    refine r_iload_n dX8_in_6 rfl ?_
    first | refine r_icmp_gt_n (tgt := 14) dX8_in_7 (by decide) (by omega) (by omega) (fun h7 => ?_) (fun h7 => ?_) | refine r_icmp_gt (tgt := 14) dX8_in_7 (by decide) (fun h7 => ?_) (fun h7 => ?_)
    · refine r_iconst (v := nI 0) dX8_in_14 (by decide) ?_
      refine r_iret rfl (by first | rfl | exact bI_nar _) dX8_in_15 ?_
      exact hq _ (by simp [bI, Int32.not_le.mpr h7]; rfl)
    · refine r_iconst (v := nI 1) dX8_in_10 (by decide) ?_
      refine r_goto (tgt := 15) dX8_in_11 (by decide) ?_
      refine r_iret rfl (by first | rfl | exact bI_nar _) dX8_in_15 ?_
      exact hq _ (by simp [bI, Int32.not_lt.mp h2, Int32.not_lt.mp h7]; rfl)
theorem m_thrown (h : MAt B M m F D A) (hq : Q (.inl (some (.int (nI (F 6))))) M t u) : mMet G d zX8_thrown [.ref m] M t u Q := by
  refine m_intro (by decide +kernel) ⟨Nat.le_of_ble_eq_true rfl, Nat.le_of_ble_eq_true rfl⟩ ?_
  show mW G _ _ 0 [some (.ref m)] [] _ _ _ _
  first | refine r_aload_n dX8_thrown_0 rfl ?_ | refine r_aload_nq dX8_thrown_0 rfl ?_ | refine r_aload_nN dX8_thrown_0 rfl ?_
  refine r_getf f_X8_64_7 (by first | exact MAt.o (by assumption) | exact MAt.a1 (by assumption) | exact MAt.a2 (by assumption) | exact MAt.a3 (by assumption) | exact MAt.a4 (by assumption) | exact MAt.a5 (by assumption) | exact MAt.a6 (by assumption) | exact MAt.a7 (by assumption) | exact MAt.a8 (by assumption) | exact MAt.a9 (by assumption) | exact MAt.a10 (by assumption) | exact MAt.a11 (by assumption) | exact MAt.a12 (by assumption) | exact MAt.a13 (by assumption) | exact MAt.a14 (by assumption) | exact MAt.a15 (by assumption) | exact MAt.a16 (by assumption)) (by rfl) dX8_thrown_1 ?_
  refine r_iret rfl (by first | rfl | exact bI_nar _) dX8_thrown_4 ?_
  exact hq
theorem m_fails (h : MAt B M m F D A) (hb : mGb G ≤ m) (k : Nat) (hq : ∀ M, MAt B M m (fU F 6 k) D A → Q (.inl (some (.int 0))) M t u) : mMet G d zX8_fails [.ref m, .int (nI k)] M t u Q := by
  refine m_intro (by decide +kernel) ⟨Nat.le_of_ble_eq_true rfl, Nat.le_of_ble_eq_true rfl⟩ ?_
  show mW G _ _ 0 [some (.ref m), some (.int (nI k))] [] _ _ _ _
  first | refine r_aload_n dX8_fails_0 rfl ?_ | refine r_aload_nq dX8_fails_0 rfl ?_ | refine r_aload_nN dX8_fails_0 rfl ?_
  refine r_iload_n dX8_fails_1 rfl ?_
  refine r_putf f_X8_64_7 ft_7_6 (by first | exact MAt.o (by assumption) | exact MAt.a1 (by assumption) | exact MAt.a2 (by assumption) | exact MAt.a3 (by assumption) | exact MAt.a4 (by assumption) | exact MAt.a5 (by assumption) | exact MAt.a6 (by assumption) | exact MAt.a7 (by assumption) | exact MAt.a8 (by assumption) | exact MAt.a9 (by assumption) | exact MAt.a10 (by assumption) | exact MAt.a11 (by assumption) | exact MAt.a12 (by assumption) | exact MAt.a13 (by assumption) | exact MAt.a14 (by assumption) | exact MAt.a15 (by assumption) | exact MAt.a16 (by assumption)) (by omega) (by first | rfl | exact bI_nar _) (by first | rfl | exact bI_fit _) dX8_fails_2 ?_
  refine MAt.p6 (by assumption) (fun M hM => ?_)
  refine r_iconst (v := nI 0) dX8_fails_5 (by decide) ?_
  refine r_iret rfl (by first | rfl | exact bI_nar _) dX8_fails_6 ?_
  exact hq _ hM
theorem m_refuse (h : MAt B M m F D A) (hb : mGb G ≤ m) (k r : Nat) (v : Int32) (hq : ∀ M, MAt B M m (fU (fU F 6 k) 7 r) v A → Q (.inl (some (.int 0))) M t u) : mMet G d zX8_refuse [.ref m, .int (nI k), .int (nI r), .int v] M t u Q := by
  refine m_intro (by decide +kernel) ⟨Nat.le_of_ble_eq_true rfl, Nat.le_of_ble_eq_true rfl⟩ ?_
  show mW G _ _ 0 [some (.ref m), some (.int (nI k)), some (.int (nI r)), some (.int v)] [] _ _ _ _
  first | refine r_aload_n dX8_refuse_0 rfl ?_ | refine r_aload_nq dX8_refuse_0 rfl ?_ | refine r_aload_nN dX8_refuse_0 rfl ?_
  refine r_iload_n dX8_refuse_1 rfl ?_
  refine r_putf f_X8_64_7 ft_7_6 (by first | exact MAt.o (by assumption) | exact MAt.a1 (by assumption) | exact MAt.a2 (by assumption) | exact MAt.a3 (by assumption) | exact MAt.a4 (by assumption) | exact MAt.a5 (by assumption) | exact MAt.a6 (by assumption) | exact MAt.a7 (by assumption) | exact MAt.a8 (by assumption) | exact MAt.a9 (by assumption) | exact MAt.a10 (by assumption) | exact MAt.a11 (by assumption) | exact MAt.a12 (by assumption) | exact MAt.a13 (by assumption) | exact MAt.a14 (by assumption) | exact MAt.a15 (by assumption) | exact MAt.a16 (by assumption)) (by omega) (by first | rfl | exact bI_nar _) (by first | rfl | exact bI_fit _) dX8_refuse_2 ?_
  refine MAt.p6 (by assumption) (fun M hM => ?_)
  first | refine r_aload_n dX8_refuse_5 rfl ?_ | refine r_aload_nq dX8_refuse_5 rfl ?_ | refine r_aload_nN dX8_refuse_5 rfl ?_
  refine r_iload_n dX8_refuse_6 rfl ?_
  refine r_putf f_X8_76_7 ft_7_7 (by first | exact MAt.o (by assumption) | exact MAt.a1 (by assumption) | exact MAt.a2 (by assumption) | exact MAt.a3 (by assumption) | exact MAt.a4 (by assumption) | exact MAt.a5 (by assumption) | exact MAt.a6 (by assumption) | exact MAt.a7 (by assumption) | exact MAt.a8 (by assumption) | exact MAt.a9 (by assumption) | exact MAt.a10 (by assumption) | exact MAt.a11 (by assumption) | exact MAt.a12 (by assumption) | exact MAt.a13 (by assumption) | exact MAt.a14 (by assumption) | exact MAt.a15 (by assumption) | exact MAt.a16 (by assumption)) (by omega) (by first | rfl | exact bI_nar _) (by first | rfl | exact bI_fit _) dX8_refuse_7 ?_
  refine MAt.p7 (by assumption) (fun M hM => ?_)
  first | refine r_aload_n dX8_refuse_10 rfl ?_ | refine r_aload_nq dX8_refuse_10 rfl ?_ | refine r_aload_nN dX8_refuse_10 rfl ?_
  refine r_iload_n dX8_refuse_11 rfl ?_
  refine r_putf f_X8_79_7 ft_7_8 (by first | exact MAt.o (by assumption) | exact MAt.a1 (by assumption) | exact MAt.a2 (by assumption) | exact MAt.a3 (by assumption) | exact MAt.a4 (by assumption) | exact MAt.a5 (by assumption) | exact MAt.a6 (by assumption) | exact MAt.a7 (by assumption) | exact MAt.a8 (by assumption) | exact MAt.a9 (by assumption) | exact MAt.a10 (by assumption) | exact MAt.a11 (by assumption) | exact MAt.a12 (by assumption) | exact MAt.a13 (by assumption) | exact MAt.a14 (by assumption) | exact MAt.a15 (by assumption) | exact MAt.a16 (by assumption)) (by omega) (by first | rfl | exact bI_nar _) (by first | rfl | exact bI_fit _) dX8_refuse_12 ?_
  refine MAt.p8 (by assumption) (fun M hM => ?_)
  refine r_iconst (v := nI 0) dX8_refuse_15 (by decide) ?_
  refine r_iret rfl (by first | rfl | exact bI_nar _) dX8_refuse_16 ?_
  exact hq _ hM
theorem m_isChest (v : Int32) (hq : ∀ r : Int32, r = bI (inR v 0 2) → Q (.inl (some (.int r))) M t u) : mMet G (d + 1) zX8_isChest [.int v] M t u Q := by
  refine m_intro (by decide +kernel) ⟨Nat.le_of_ble_eq_true rfl, Nat.le_of_ble_eq_true rfl⟩ ?_
  show mW G _ _ 0 [some (.int v)] [] _ _ _ _
  refine r_iload_n dX8_isChest_0 rfl ?_
  refine r_iconst (v := nI 0) dX8_isChest_1 (by decide) ?_
  refine r_iconst (v := nI 2) dX8_isChest_2 (by decide) ?_
  refine r_callS s_X8_82_s dX8_isChest_3 (by rfl) rfl (Nat.le_of_ble_eq_true rfl) (m_in _ _ _ (nm_e ?_))
  refine mK_r ?_
  refine r_iret rfl (by first | rfl | exact bI_nar _) dX8_isChest_6 ?_
  exact hq _ rfl
theorem m_isGood (h : MAt B M m F D A) (v : Int32) (hq : ∀ r : Int32, r = bI (inB v (A 1 0)) → Q (.inl (some (.int r))) M t u) : mMet G (d + 1) zX8_isGood [.ref m, .int v] M t u Q := by
  refine m_intro (by decide +kernel) ⟨Nat.le_of_ble_eq_true rfl, Nat.le_of_ble_eq_true rfl⟩ ?_
  show mW G _ _ 0 [some (.ref m), some (.int v)] [] _ _ _ _
  refine r_iload_n dX8_isGood_0 rfl ?_
  refine r_iconst (v := nI 0) dX8_isGood_1 (by decide) ?_
  first | refine r_aload_n dX8_isGood_2 rfl ?_ | refine r_aload_nq dX8_isGood_2 rfl ?_ | refine r_aload_nN dX8_isGood_2 rfl ?_
  refine r_getf f_X8_9_7 (by first | exact MAt.o (by assumption) | exact MAt.a1 (by assumption) | exact MAt.a2 (by assumption) | exact MAt.a3 (by assumption) | exact MAt.a4 (by assumption) | exact MAt.a5 (by assumption) | exact MAt.a6 (by assumption) | exact MAt.a7 (by assumption) | exact MAt.a8 (by assumption) | exact MAt.a9 (by assumption) | exact MAt.a10 (by assumption) | exact MAt.a11 (by assumption) | exact MAt.a12 (by assumption) | exact MAt.a13 (by assumption) | exact MAt.a14 (by assumption) | exact MAt.a15 (by assumption) | exact MAt.a16 (by assumption)) (by rfl) dX8_isGood_3 ?_
  refine r_iconst (v := nI 0) dX8_isGood_6 (by decide) ?_
  refine r_iald_n (by first | exact MAt.o (by assumption) | exact MAt.a1 (by assumption) | exact MAt.a2 (by assumption) | exact MAt.a3 (by assumption) | exact MAt.a4 (by assumption) | exact MAt.a5 (by assumption) | exact MAt.a6 (by assumption) | exact MAt.a7 (by assumption) | exact MAt.a8 (by assumption) | exact MAt.a9 (by assumption) | exact MAt.a10 (by assumption) | exact MAt.a11 (by assumption) | exact MAt.a12 (by assumption) | exact MAt.a13 (by assumption) | exact MAt.a14 (by assumption) | exact MAt.a15 (by assumption) | exact MAt.a16 (by assumption)) (by rfl) (by omega) (by omega) dX8_isGood_7 ?_
  refine r_iconst (v := nI 1) dX8_isGood_8 (by decide) ?_
  refine r_isub dX8_isGood_9 ?_
  refine r_callS s_X8_82_s dX8_isGood_10 (by rfl) rfl (Nat.le_of_ble_eq_true rfl) (m_in _ _ _ (nm_e ?_))
  refine mK_r ?_
  refine r_iret rfl (by first | rfl | exact bI_nar _) dX8_isGood_13 ?_
  exact hq _ rfl
theorem m_isClause (h : MAt B M m F D A) (v : Int32) (hq : ∀ r : Int32, r = bI (inB v (A 1 1)) → Q (.inl (some (.int r))) M t u) : mMet G (d + 1) zX8_isClause [.ref m, .int v] M t u Q := by
  refine m_intro (by decide +kernel) ⟨Nat.le_of_ble_eq_true rfl, Nat.le_of_ble_eq_true rfl⟩ ?_
  show mW G _ _ 0 [some (.ref m), some (.int v)] [] _ _ _ _
  refine r_iload_n dX8_isClause_0 rfl ?_
  refine r_iconst (v := nI 0) dX8_isClause_1 (by decide) ?_
  first | refine r_aload_n dX8_isClause_2 rfl ?_ | refine r_aload_nq dX8_isClause_2 rfl ?_ | refine r_aload_nN dX8_isClause_2 rfl ?_
  refine r_getf f_X8_9_7 (by first | exact MAt.o (by assumption) | exact MAt.a1 (by assumption) | exact MAt.a2 (by assumption) | exact MAt.a3 (by assumption) | exact MAt.a4 (by assumption) | exact MAt.a5 (by assumption) | exact MAt.a6 (by assumption) | exact MAt.a7 (by assumption) | exact MAt.a8 (by assumption) | exact MAt.a9 (by assumption) | exact MAt.a10 (by assumption) | exact MAt.a11 (by assumption) | exact MAt.a12 (by assumption) | exact MAt.a13 (by assumption) | exact MAt.a14 (by assumption) | exact MAt.a15 (by assumption) | exact MAt.a16 (by assumption)) (by rfl) dX8_isClause_3 ?_
  refine r_iconst (v := nI 1) dX8_isClause_6 (by decide) ?_
  refine r_iald_n (by first | exact MAt.o (by assumption) | exact MAt.a1 (by assumption) | exact MAt.a2 (by assumption) | exact MAt.a3 (by assumption) | exact MAt.a4 (by assumption) | exact MAt.a5 (by assumption) | exact MAt.a6 (by assumption) | exact MAt.a7 (by assumption) | exact MAt.a8 (by assumption) | exact MAt.a9 (by assumption) | exact MAt.a10 (by assumption) | exact MAt.a11 (by assumption) | exact MAt.a12 (by assumption) | exact MAt.a13 (by assumption) | exact MAt.a14 (by assumption) | exact MAt.a15 (by assumption) | exact MAt.a16 (by assumption)) (by rfl) (by omega) (by omega) dX8_isClause_7 ?_
  refine r_iconst (v := nI 1) dX8_isClause_8 (by decide) ?_
  refine r_isub dX8_isClause_9 ?_
  refine r_callS s_X8_82_s dX8_isClause_10 (by rfl) rfl (Nat.le_of_ble_eq_true rfl) (m_in _ _ _ (nm_e ?_))
  refine mK_r ?_
  refine r_iret rfl (by first | rfl | exact bI_nar _) dX8_isClause_13 ?_
  exact hq _ rfl
theorem m_sort (h : MAt B M m F D A) (k : Nat) (hk : k < 24) (hq : Q (.inl (some (.int (nI (A 1 (37 + 3 * k)))))) M t u) : mMet G d zX8_sort [.ref m, .int (nI k)] M t u Q := by
  refine m_intro (by decide +kernel) ⟨Nat.le_of_ble_eq_true rfl, Nat.le_of_ble_eq_true rfl⟩ ?_
  show mW G _ _ 0 [some (.ref m), some (.int (nI k))] [] _ _ _ _
  first | refine r_aload_n dX8_sort_0 rfl ?_ | refine r_aload_nq dX8_sort_0 rfl ?_ | refine r_aload_nN dX8_sort_0 rfl ?_
  refine r_getf f_X8_9_7 (by first | exact MAt.o (by assumption) | exact MAt.a1 (by assumption) | exact MAt.a2 (by assumption) | exact MAt.a3 (by assumption) | exact MAt.a4 (by assumption) | exact MAt.a5 (by assumption) | exact MAt.a6 (by assumption) | exact MAt.a7 (by assumption) | exact MAt.a8 (by assumption) | exact MAt.a9 (by assumption) | exact MAt.a10 (by assumption) | exact MAt.a11 (by assumption) | exact MAt.a12 (by assumption) | exact MAt.a13 (by assumption) | exact MAt.a14 (by assumption) | exact MAt.a15 (by assumption) | exact MAt.a16 (by assumption)) (by rfl) dX8_sort_1 ?_
  refine r_bipush (v := nI 37) dX8_sort_4 (by decide) ?_
  refine r_iconst (v := nI 3) dX8_sort_6 (by decide) ?_
  refine r_iload_n dX8_sort_7 rfl ?_
  first | refine r_imul_n dX8_sort_8 ?_ | refine r_imul dX8_sort_8 ?_
  first | refine r_iadd_n dX8_sort_9 ?_ | refine r_iadd dX8_sort_9 ?_
  refine r_iald_n (by first | exact MAt.o (by assumption) | exact MAt.a1 (by assumption) | exact MAt.a2 (by assumption) | exact MAt.a3 (by assumption) | exact MAt.a4 (by assumption) | exact MAt.a5 (by assumption) | exact MAt.a6 (by assumption) | exact MAt.a7 (by assumption) | exact MAt.a8 (by assumption) | exact MAt.a9 (by assumption) | exact MAt.a10 (by assumption) | exact MAt.a11 (by assumption) | exact MAt.a12 (by assumption) | exact MAt.a13 (by assumption) | exact MAt.a14 (by assumption) | exact MAt.a15 (by assumption) | exact MAt.a16 (by assumption)) (by rfl) (by omega) (by omega) dX8_sort_10 ?_
  refine r_iret rfl (by first | rfl | exact bI_nar _) dX8_sort_11 ?_
  exact hq
theorem m_one (h : MAt B M m F D A) (k : Nat) (hk : k < 24) (hq : Q (.inl (some (.int (nI (A 1 (38 + 3 * k)))))) M t u) : mMet G d zX8_one [.ref m, .int (nI k)] M t u Q := by
  refine m_intro (by decide +kernel) ⟨Nat.le_of_ble_eq_true rfl, Nat.le_of_ble_eq_true rfl⟩ ?_
  show mW G _ _ 0 [some (.ref m), some (.int (nI k))] [] _ _ _ _
  first | refine r_aload_n dX8_one_0 rfl ?_ | refine r_aload_nq dX8_one_0 rfl ?_ | refine r_aload_nN dX8_one_0 rfl ?_
  refine r_getf f_X8_9_7 (by first | exact MAt.o (by assumption) | exact MAt.a1 (by assumption) | exact MAt.a2 (by assumption) | exact MAt.a3 (by assumption) | exact MAt.a4 (by assumption) | exact MAt.a5 (by assumption) | exact MAt.a6 (by assumption) | exact MAt.a7 (by assumption) | exact MAt.a8 (by assumption) | exact MAt.a9 (by assumption) | exact MAt.a10 (by assumption) | exact MAt.a11 (by assumption) | exact MAt.a12 (by assumption) | exact MAt.a13 (by assumption) | exact MAt.a14 (by assumption) | exact MAt.a15 (by assumption) | exact MAt.a16 (by assumption)) (by rfl) dX8_one_1 ?_
  refine r_bipush (v := nI 37) dX8_one_4 (by decide) ?_
  refine r_iconst (v := nI 3) dX8_one_6 (by decide) ?_
  refine r_iload_n dX8_one_7 rfl ?_
  first | refine r_imul_n dX8_one_8 ?_ | refine r_imul dX8_one_8 ?_
  first | refine r_iadd_n dX8_one_9 ?_ | refine r_iadd dX8_one_9 ?_
  refine r_iconst (v := nI 1) dX8_one_10 (by decide) ?_
  first | refine r_iadd_n dX8_one_11 ?_ | refine r_iadd dX8_one_11 ?_
  refine r_iald_n (by first | exact MAt.o (by assumption) | exact MAt.a1 (by assumption) | exact MAt.a2 (by assumption) | exact MAt.a3 (by assumption) | exact MAt.a4 (by assumption) | exact MAt.a5 (by assumption) | exact MAt.a6 (by assumption) | exact MAt.a7 (by assumption) | exact MAt.a8 (by assumption) | exact MAt.a9 (by assumption) | exact MAt.a10 (by assumption) | exact MAt.a11 (by assumption) | exact MAt.a12 (by assumption) | exact MAt.a13 (by assumption) | exact MAt.a14 (by assumption) | exact MAt.a15 (by assumption) | exact MAt.a16 (by assumption)) (by rfl) (by omega) (by omega) dX8_one_12 ?_
  refine r_iret rfl (by first | rfl | exact bI_nar _) dX8_one_13 ?_
  rw [show 37 + 3 * k + 1 = 38 + 3 * k by omega]
  exact hq
theorem m_hasPlough (s : Nat) (hs : s < 100) (hq : ∀ r : Int32, r = bI (decide (4 ≤ s ∧ s ≤ 6)) → Q (.inl (some (.int r))) M t u) : mMet G (d + 1) zX8_hasPlough [.int (nI s)] M t u Q := by
  refine m_intro (by decide +kernel) ⟨Nat.le_of_ble_eq_true rfl, Nat.le_of_ble_eq_true rfl⟩ ?_
  show mW G _ _ 0 [some (.int (nI s))] [] _ _ _ _
  refine r_iload_n dX8_hasPlough_0 rfl ?_
  refine r_iconst (v := nI 4) dX8_hasPlough_1 (by decide) ?_
  refine r_bipush (v := nI 6) dX8_hasPlough_2 (by decide) ?_
  refine r_callS s_X8_82_s dX8_hasPlough_4 (by rfl) rfl (Nat.le_of_ble_eq_true rfl) (m_in _ _ _ (nm_e ?_))
  refine mK_r ?_
  refine r_iret rfl (by first | rfl | exact bI_nar _) dX8_hasPlough_7 ?_
  exact hq _ (by rw [← inR_n (by omega) (by decide) (by decide)]; rfl)
theorem m_isPut (s : Nat) (hs : s < 100) (hq : ∀ r : Int32, r = bI (decide (s = 4 ∨ s = 5)) → Q (.inl (some (.int r))) M t u) : mMet G d zX8_isPut [.int (nI s)] M t u Q := by
  refine m_intro (by decide +kernel) ⟨Nat.le_of_ble_eq_true rfl, Nat.le_of_ble_eq_true rfl⟩ ?_
  show mW G _ _ 0 [some (.int (nI s))] [] _ _ _ _
  refine r_iload_n dX8_isPut_0 rfl ?_
  refine r_iconst (v := nI 4) dX8_isPut_1 (by decide) ?_
  first | refine r_icmp_eq_n (tgt := 10) dX8_isPut_2 (by decide) (by omega) (by omega) (fun h2 => ?_) (fun h2 => ?_) | refine r_icmp_eq_pn (tgt := 10) dX8_isPut_2 (by decide) (by omega) (by omega) (fun h2 => ?_) (fun h2 => ?_) | refine r_icmp_eq_pm (tgt := 10) dX8_isPut_2 (by decide) (by omega) (fun h2 => ?_) (fun h2 => ?_) | refine r_icmp_eq (tgt := 10) dX8_isPut_2 (by decide) (fun h2 => ?_) (fun h2 => ?_)
  · refine r_iconst (v := nI 1) dX8_isPut_10 (by decide) ?_
    refine r_goto (tgt := 15) dX8_isPut_11 (by decide) ?_
    refine r_iret rfl (by first | rfl | exact bI_nar _) dX8_isPut_15 ?_
    exact hq _ (by simp [h2]; rfl)
  · refine r_iload_n dX8_isPut_5 rfl ?_
    refine r_iconst (v := nI 5) dX8_isPut_6 (by decide) ?_
    first | refine r_icmp_ne_n (tgt := 14) dX8_isPut_7 (by decide) (by omega) (by omega) (fun h7 => ?_) (fun h7 => ?_) | refine r_icmp_ne_pn (tgt := 14) dX8_isPut_7 (by decide) (by omega) (by omega) (fun h7 => ?_) (fun h7 => ?_) | refine r_icmp_ne_pm (tgt := 14) dX8_isPut_7 (by decide) (by omega) (fun h7 => ?_) (fun h7 => ?_) | refine r_icmp_ne (tgt := 14) dX8_isPut_7 (by decide) (fun h7 => ?_) (fun h7 => ?_)
    · refine r_iconst (v := nI 0) dX8_isPut_14 (by decide) ?_
      refine r_iret rfl (by first | rfl | exact bI_nar _) dX8_isPut_15 ?_
      exact hq _ (by simp [h2, h7]; rfl)
    · refine r_iconst (v := nI 1) dX8_isPut_10 (by decide) ?_
      refine r_goto (tgt := 15) dX8_isPut_11 (by decide) ?_
      refine r_iret rfl (by first | rfl | exact bI_nar _) dX8_isPut_15 ?_
      exact hq _ (by simp [h7]; rfl)
theorem m_hasGood (s : Nat) (hs : s < 100) (hq : ∀ r : Int32, r = bI (decide (s = 2 ∨ s = 3)) → Q (.inl (some (.int r))) M t u) : mMet G d zX8_hasGood [.int (nI s)] M t u Q := by
  refine m_intro (by decide +kernel) ⟨Nat.le_of_ble_eq_true rfl, Nat.le_of_ble_eq_true rfl⟩ ?_
  show mW G _ _ 0 [some (.int (nI s))] [] _ _ _ _
  refine r_iload_n dX8_hasGood_0 rfl ?_
  refine r_iconst (v := nI 2) dX8_hasGood_1 (by decide) ?_
  first | refine r_icmp_eq_n (tgt := 10) dX8_hasGood_2 (by decide) (by omega) (by omega) (fun h2 => ?_) (fun h2 => ?_) | refine r_icmp_eq_pn (tgt := 10) dX8_hasGood_2 (by decide) (by omega) (by omega) (fun h2 => ?_) (fun h2 => ?_) | refine r_icmp_eq_pm (tgt := 10) dX8_hasGood_2 (by decide) (by omega) (fun h2 => ?_) (fun h2 => ?_) | refine r_icmp_eq (tgt := 10) dX8_hasGood_2 (by decide) (fun h2 => ?_) (fun h2 => ?_)
  · refine r_iconst (v := nI 1) dX8_hasGood_10 (by decide) ?_
    refine r_goto (tgt := 15) dX8_hasGood_11 (by decide) ?_
    refine r_iret rfl (by first | rfl | exact bI_nar _) dX8_hasGood_15 ?_
    exact hq _ (by simp [h2]; rfl)
  · refine r_iload_n dX8_hasGood_5 rfl ?_
    refine r_iconst (v := nI 3) dX8_hasGood_6 (by decide) ?_
    first | refine r_icmp_ne_n (tgt := 14) dX8_hasGood_7 (by decide) (by omega) (by omega) (fun h7 => ?_) (fun h7 => ?_) | refine r_icmp_ne_pn (tgt := 14) dX8_hasGood_7 (by decide) (by omega) (by omega) (fun h7 => ?_) (fun h7 => ?_) | refine r_icmp_ne_pm (tgt := 14) dX8_hasGood_7 (by decide) (by omega) (fun h7 => ?_) (fun h7 => ?_) | refine r_icmp_ne (tgt := 14) dX8_hasGood_7 (by decide) (fun h7 => ?_) (fun h7 => ?_)
    · refine r_iconst (v := nI 0) dX8_hasGood_14 (by decide) ?_
      refine r_iret rfl (by first | rfl | exact bI_nar _) dX8_hasGood_15 ?_
      exact hq _ (by simp [h2, h7]; rfl)
    · refine r_iconst (v := nI 1) dX8_hasGood_10 (by decide) ?_
      refine r_goto (tgt := 15) dX8_hasGood_11 (by decide) ?_
      refine r_iret rfl (by first | rfl | exact bI_nar _) dX8_hasGood_15 ?_
      exact hq _ (by simp [h7]; rfl)
/-- the good of a clause that has one, as a successor -/
def cGood (s o t : Nat) : Nat := if s = 2 ∨ s = 3 then o + 1 else if s = 4 ∨ s = 5 then t + 1 else 0
theorem m_goodIn (h : MAt B M m F D A) (k : Nat) (hk : k < 24) (hs : A 1 (37 + 3 * k) < 100) (hq : ∀ r : Int32, r = pI (cGood (A 1 (37 + 3 * k)) (A 1 (38 + 3 * k)) (A 1 (39 + 3 * k))) → Q (.inl (some (.int r))) M t u) : mMet G (d + 1) zX8_goodIn [.ref m, .int (nI k)] M t u Q := by
  refine m_intro (by decide +kernel) ⟨Nat.le_of_ble_eq_true rfl, Nat.le_of_ble_eq_true rfl⟩ ?_
  show mW G _ _ 0 [some (.ref m), some (.int (nI k)), none] [] _ _ _ _
  first | refine r_aload_n dX8_goodIn_0 rfl ?_ | refine r_aload_nq dX8_goodIn_0 rfl ?_ | refine r_aload_nN dX8_goodIn_0 rfl ?_
  refine r_iload_n dX8_goodIn_1 rfl ?_
  refine r_callV s_X8_110_v dX8_goodIn_2 (by first | exact MAt.o (by assumption) | exact MAt.a1 (by assumption) | exact MAt.a2 (by assumption) | exact MAt.a3 (by assumption) | exact MAt.a4 (by assumption) | exact MAt.a5 (by assumption) | exact MAt.a6 (by assumption) | exact MAt.a7 (by assumption) | exact MAt.a8 (by assumption) | exact MAt.a9 (by assumption) | exact MAt.a10 (by assumption) | exact MAt.a11 (by assumption) | exact MAt.a12 (by assumption) | exact MAt.a13 (by assumption) | exact MAt.a14 (by assumption) | exact MAt.a15 (by assumption) | exact MAt.a16 (by assumption)) (by rfl) rfl (Nat.le_of_ble_eq_true rfl) (m_sort h k hk ?_)
  refine mK_r ?_
  refine r_istore_n dX8_goodIn_5 (by decide) ?_
  simp only [mst1, mclr]
  refine r_iload_n dX8_goodIn_6 rfl ?_
  refine r_iconst (v := nI 2) dX8_goodIn_7 (by decide) ?_
  first | refine r_icmp_eq_n (tgt := 16) dX8_goodIn_8 (by decide) (by omega) (by omega) (fun h8 => ?_) (fun h8 => ?_) | refine r_icmp_eq_pn (tgt := 16) dX8_goodIn_8 (by decide) (by omega) (by omega) (fun h8 => ?_) (fun h8 => ?_) | refine r_icmp_eq_pm (tgt := 16) dX8_goodIn_8 (by decide) (by omega) (fun h8 => ?_) (fun h8 => ?_) | refine r_icmp_eq (tgt := 16) dX8_goodIn_8 (by decide) (fun h8 => ?_) (fun h8 => ?_)
  · first | refine r_aload_n dX8_goodIn_16 rfl ?_ | refine r_aload_nq dX8_goodIn_16 rfl ?_ | refine r_aload_nN dX8_goodIn_16 rfl ?_
    refine r_iload_n dX8_goodIn_17 rfl ?_
    refine r_callV s_X8_133_v dX8_goodIn_18 (by first | exact MAt.o (by assumption) | exact MAt.a1 (by assumption) | exact MAt.a2 (by assumption) | exact MAt.a3 (by assumption) | exact MAt.a4 (by assumption) | exact MAt.a5 (by assumption) | exact MAt.a6 (by assumption) | exact MAt.a7 (by assumption) | exact MAt.a8 (by assumption) | exact MAt.a9 (by assumption) | exact MAt.a10 (by assumption) | exact MAt.a11 (by assumption) | exact MAt.a12 (by assumption) | exact MAt.a13 (by assumption) | exact MAt.a14 (by assumption) | exact MAt.a15 (by assumption) | exact MAt.a16 (by assumption)) (by rfl) rfl (Nat.le_of_ble_eq_true rfl) (m_one h k hk ?_)
    refine mK_r ?_
    refine r_goto (tgt := 51) dX8_goodIn_21 (by decide) ?_
    refine r_iret rfl (by first | rfl | exact bI_nar _) dX8_goodIn_51 ?_
    exact hq _ (by simp [cGood, h8]; rfl)
  · refine r_iload_n dX8_goodIn_11 rfl ?_
    refine r_iconst (v := nI 3) dX8_goodIn_12 (by decide) ?_
    first | refine r_icmp_ne_n (tgt := 24) dX8_goodIn_13 (by decide) (by omega) (by omega) (fun h13 => ?_) (fun h13 => ?_) | refine r_icmp_ne_pn (tgt := 24) dX8_goodIn_13 (by decide) (by omega) (by omega) (fun h13 => ?_) (fun h13 => ?_) | refine r_icmp_ne_pm (tgt := 24) dX8_goodIn_13 (by decide) (by omega) (fun h13 => ?_) (fun h13 => ?_) | refine r_icmp_ne (tgt := 24) dX8_goodIn_13 (by decide) (fun h13 => ?_) (fun h13 => ?_)
    · refine r_iload_n dX8_goodIn_24 rfl ?_
      refine r_iconst (v := nI 4) dX8_goodIn_25 (by decide) ?_
      first | refine r_icmp_eq_n (tgt := 34) dX8_goodIn_26 (by decide) (by omega) (by omega) (fun h26 => ?_) (fun h26 => ?_) | refine r_icmp_eq_pn (tgt := 34) dX8_goodIn_26 (by decide) (by omega) (by omega) (fun h26 => ?_) (fun h26 => ?_) | refine r_icmp_eq_pm (tgt := 34) dX8_goodIn_26 (by decide) (by omega) (fun h26 => ?_) (fun h26 => ?_) | refine r_icmp_eq (tgt := 34) dX8_goodIn_26 (by decide) (fun h26 => ?_) (fun h26 => ?_)
      · first | refine r_aload_n dX8_goodIn_34 rfl ?_ | refine r_aload_nq dX8_goodIn_34 rfl ?_ | refine r_aload_nN dX8_goodIn_34 rfl ?_
        refine r_getf f_X8_9_7 (by first | exact MAt.o (by assumption) | exact MAt.a1 (by assumption) | exact MAt.a2 (by assumption) | exact MAt.a3 (by assumption) | exact MAt.a4 (by assumption) | exact MAt.a5 (by assumption) | exact MAt.a6 (by assumption) | exact MAt.a7 (by assumption) | exact MAt.a8 (by assumption) | exact MAt.a9 (by assumption) | exact MAt.a10 (by assumption) | exact MAt.a11 (by assumption) | exact MAt.a12 (by assumption) | exact MAt.a13 (by assumption) | exact MAt.a14 (by assumption) | exact MAt.a15 (by assumption) | exact MAt.a16 (by assumption)) (by rfl) dX8_goodIn_35 ?_
        refine r_bipush (v := nI 37) dX8_goodIn_38 (by decide) ?_
        refine r_iconst (v := nI 3) dX8_goodIn_40 (by decide) ?_
        refine r_iload_n dX8_goodIn_41 rfl ?_
        first | refine r_imul_n dX8_goodIn_42 ?_ | refine r_imul dX8_goodIn_42 ?_
        first | refine r_iadd_n dX8_goodIn_43 ?_ | refine r_iadd dX8_goodIn_43 ?_
        refine r_iconst (v := nI 2) dX8_goodIn_44 (by decide) ?_
        first | refine r_iadd_n dX8_goodIn_45 ?_ | refine r_iadd dX8_goodIn_45 ?_
        refine r_iald_n (by first | exact MAt.o (by assumption) | exact MAt.a1 (by assumption) | exact MAt.a2 (by assumption) | exact MAt.a3 (by assumption) | exact MAt.a4 (by assumption) | exact MAt.a5 (by assumption) | exact MAt.a6 (by assumption) | exact MAt.a7 (by assumption) | exact MAt.a8 (by assumption) | exact MAt.a9 (by assumption) | exact MAt.a10 (by assumption) | exact MAt.a11 (by assumption) | exact MAt.a12 (by assumption) | exact MAt.a13 (by assumption) | exact MAt.a14 (by assumption) | exact MAt.a15 (by assumption) | exact MAt.a16 (by assumption)) (by rfl) (by omega) (by omega) dX8_goodIn_46 ?_
        refine r_goto (tgt := 51) dX8_goodIn_47 (by decide) ?_
        refine r_iret rfl (by first | rfl | exact bI_nar _) dX8_goodIn_51 ?_
        exact hq _ (by simp [cGood, h26]; rw [show 37 + 3 * k + 2 = 39 + 3 * k by omega]; rfl)
      · refine r_iload_n dX8_goodIn_29 rfl ?_
        refine r_iconst (v := nI 5) dX8_goodIn_30 (by decide) ?_
        first | refine r_icmp_ne_n (tgt := 50) dX8_goodIn_31 (by decide) (by omega) (by omega) (fun h31 => ?_) (fun h31 => ?_) | refine r_icmp_ne_pn (tgt := 50) dX8_goodIn_31 (by decide) (by omega) (by omega) (fun h31 => ?_) (fun h31 => ?_) | refine r_icmp_ne_pm (tgt := 50) dX8_goodIn_31 (by decide) (by omega) (fun h31 => ?_) (fun h31 => ?_) | refine r_icmp_ne (tgt := 50) dX8_goodIn_31 (by decide) (fun h31 => ?_) (fun h31 => ?_)
        · refine r_iconst (v := -1) dX8_goodIn_50 (by decide) ?_
          refine r_iret rfl (by first | rfl | exact bI_nar _) dX8_goodIn_51 ?_
          exact hq _ (by simp [cGood, h8, h13, h26, h31]; rfl)
        · first | refine r_aload_n dX8_goodIn_34 rfl ?_ | refine r_aload_nq dX8_goodIn_34 rfl ?_ | refine r_aload_nN dX8_goodIn_34 rfl ?_
          refine r_getf f_X8_9_7 (by first | exact MAt.o (by assumption) | exact MAt.a1 (by assumption) | exact MAt.a2 (by assumption) | exact MAt.a3 (by assumption) | exact MAt.a4 (by assumption) | exact MAt.a5 (by assumption) | exact MAt.a6 (by assumption) | exact MAt.a7 (by assumption) | exact MAt.a8 (by assumption) | exact MAt.a9 (by assumption) | exact MAt.a10 (by assumption) | exact MAt.a11 (by assumption) | exact MAt.a12 (by assumption) | exact MAt.a13 (by assumption) | exact MAt.a14 (by assumption) | exact MAt.a15 (by assumption) | exact MAt.a16 (by assumption)) (by rfl) dX8_goodIn_35 ?_
          refine r_bipush (v := nI 37) dX8_goodIn_38 (by decide) ?_
          refine r_iconst (v := nI 3) dX8_goodIn_40 (by decide) ?_
          refine r_iload_n dX8_goodIn_41 rfl ?_
          first | refine r_imul_n dX8_goodIn_42 ?_ | refine r_imul dX8_goodIn_42 ?_
          first | refine r_iadd_n dX8_goodIn_43 ?_ | refine r_iadd dX8_goodIn_43 ?_
          refine r_iconst (v := nI 2) dX8_goodIn_44 (by decide) ?_
          first | refine r_iadd_n dX8_goodIn_45 ?_ | refine r_iadd dX8_goodIn_45 ?_
          refine r_iald_n (by first | exact MAt.o (by assumption) | exact MAt.a1 (by assumption) | exact MAt.a2 (by assumption) | exact MAt.a3 (by assumption) | exact MAt.a4 (by assumption) | exact MAt.a5 (by assumption) | exact MAt.a6 (by assumption) | exact MAt.a7 (by assumption) | exact MAt.a8 (by assumption) | exact MAt.a9 (by assumption) | exact MAt.a10 (by assumption) | exact MAt.a11 (by assumption) | exact MAt.a12 (by assumption) | exact MAt.a13 (by assumption) | exact MAt.a14 (by assumption) | exact MAt.a15 (by assumption) | exact MAt.a16 (by assumption)) (by rfl) (by omega) (by omega) dX8_goodIn_46 ?_
          refine r_goto (tgt := 51) dX8_goodIn_47 (by decide) ?_
          refine r_iret rfl (by first | rfl | exact bI_nar _) dX8_goodIn_51 ?_
          exact hq _ (by simp [cGood, h31]; rw [show 37 + 3 * k + 2 = 39 + 3 * k by omega]; rfl)
    · first | refine r_aload_n dX8_goodIn_16 rfl ?_ | refine r_aload_nq dX8_goodIn_16 rfl ?_ | refine r_aload_nN dX8_goodIn_16 rfl ?_
      refine r_iload_n dX8_goodIn_17 rfl ?_
      refine r_callV s_X8_133_v dX8_goodIn_18 (by first | exact MAt.o (by assumption) | exact MAt.a1 (by assumption) | exact MAt.a2 (by assumption) | exact MAt.a3 (by assumption) | exact MAt.a4 (by assumption) | exact MAt.a5 (by assumption) | exact MAt.a6 (by assumption) | exact MAt.a7 (by assumption) | exact MAt.a8 (by assumption) | exact MAt.a9 (by assumption) | exact MAt.a10 (by assumption) | exact MAt.a11 (by assumption) | exact MAt.a12 (by assumption) | exact MAt.a13 (by assumption) | exact MAt.a14 (by assumption) | exact MAt.a15 (by assumption) | exact MAt.a16 (by assumption)) (by rfl) rfl (Nat.le_of_ble_eq_true rfl) (m_one h k hk ?_)
      refine mK_r ?_
      refine r_goto (tgt := 51) dX8_goodIn_21 (by decide) ?_
      refine r_iret rfl (by first | rfl | exact bI_nar _) dX8_goodIn_51 ?_
      exact hq _ (by simp [cGood, h13]; rfl)
end MOD1
