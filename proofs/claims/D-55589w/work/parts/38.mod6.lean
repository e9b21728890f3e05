section MOD6
variable {G : mG} {d : Nat} {B M : mM} {m t u th : Nat} {X : XT} {F : Nat → Nat} {D : Int32} {A : Nat → Nat → Nat} {Q : mQt}
theorem m_isFit (h : MAt B M m F D A) (hb : mGb G ≤ m) (k s : Nat) (hs : s < 100) (o t' : Int32) (h1 : clBad (A 1 0) s o t' = none → Q (.inl (some (.int (bI true)))) M t u)
   (h2 : ∀ dt, clBad (A 1 0) s o t' = some dt → ∀ M, MAt B M m (fU (fU F 6 k) 7 3) dt A → Q (.inl (some (.int (bI false)))) M t u) : mMet G (d + 2) zX8_isFit [.ref m, .int (nI k), .int (nI s), .int o, .int t'] M t u Q := by
  refine m_intro (by decide +kernel) ⟨Nat.le_of_ble_eq_true rfl, Nat.le_of_ble_eq_true rfl⟩ ?_
  show mW G _ _ 0 [some (.ref m), some (.int (nI k)), some (.int (nI s)), some (.int o), some (.int t'), none, none, none] [] _ _ _ _
  have good : clBad (A 1 0) s o t' = none → mW G zX8_isFit (d + 2) 59 [some (.ref m), some (.int (nI k)), some (.int (nI s)), some (.int o), some (.int t'), some (.int (nI 1)), none, none] [] M t u Q := by
    intro hx
    refine r_iconst (v := nI 1) dX8_isFit_59 (by decide) ?_
    refine r_goto (tgt := 64) dX8_isFit_60 (by decide) ?_
    refine r_istore dX8_isFit_64 (by decide) ?_
    simp only [mst1, mclr]
    refine r_iload dX8_isFit_66 rfl ?_
    refine r_if_ne_n (tgt := 97) dX8_isFit_68 (by decide) (by omega) (fun h68 => ?_) (fun h68 => by exfalso; omega)
    refine r_iload dX8_isFit_97 rfl ?_
    refine r_iret rfl (by first | rfl | exact bI_nar _) dX8_isFit_99 ?_
    exact h1 hx
  have bad : ∀ b dt, clBad (A 1 0) s o t' = some dt → (b = false → dt = o) → (b = true → ¬ (s = 4 ∨ s = 5) → dt = o) → (b = true → (s = 4 ∨ s = 5) → dt = t') → mW G zX8_isFit (d + 2) 63 [some (.ref m), some (.int (nI k)), some (.int (nI s)), some (.int o), some (.int t'), some (.int (bI b)), none, none] [] M t u Q := by
    intro b dt hx e1 e2 e3
    have last : ∀ v, v = dt → mW G zX8_isFit (d + 2) 92 [some (.ref m), some (.int (nI k)), some (.int (nI s)), some (.int o), some (.int t'), some (.int (bI b)), some (.int 0), none] [.int v, .int (nI 3), .int (nI k), .ref m] M t u Q := by
      intro v hv
      subst hv
      refine r_callV s_X8_96_v dX8_isFit_92 (by first | exact MAt.o (by assumption) | exact MAt.a1 (by assumption) | exact MAt.a2 (by assumption) | exact MAt.a3 (by assumption) | exact MAt.a4 (by assumption) | exact MAt.a5 (by assumption) | exact MAt.a6 (by assumption) | exact MAt.a7 (by assumption) | exact MAt.a8 (by assumption) | exact MAt.a9 (by assumption) | exact MAt.a10 (by assumption) | exact MAt.a11 (by assumption) | exact MAt.a12 (by assumption) | exact MAt.a13 (by assumption) | exact MAt.a14 (by assumption) | exact MAt.a15 (by assumption) | exact MAt.a16 (by assumption)) (by rfl) rfl (Nat.le_of_ble_eq_true rfl) (m_refuse h hb k 3 v (fun M hM => ?_))
      refine mK_r ?_
      refine r_istore dX8_isFit_95 (by decide) ?_
      simp only [mst1, mclr]
      refine r_iload dX8_isFit_97 rfl ?_
      refine r_iret rfl (by first | rfl | exact bI_nar _) dX8_isFit_99 ?_
      exact h2 _ hx _ hM
    refine r_iconst (v := nI 0) dX8_isFit_63 (by decide) ?_
    refine r_istore dX8_isFit_64 (by decide) ?_
    simp only [mst1, mclr]
    refine r_iload dX8_isFit_66 rfl ?_
    refine r_if_ne_n (tgt := 97) dX8_isFit_68 (by decide) (by omega) (fun h68 => by exfalso; omega) (fun h68 => ?_)
    first | refine r_aload_n dX8_isFit_71 rfl ?_ | refine r_aload_nq dX8_isFit_71 rfl ?_ | refine r_aload_nN dX8_isFit_71 rfl ?_
    refine r_iload_n dX8_isFit_72 rfl ?_
    refine r_iconst (v := nI 3) dX8_isFit_73 (by decide) ?_
    refine r_iload dX8_isFit_74 rfl ?_
    first | refine r_if_eq_b (tgt := 91) dX8_isFit_76 (by decide) (fun h76 => ?_) (fun h76 => ?_) | refine r_if_eq_n (tgt := 91) dX8_isFit_76 (by decide) (by omega) (fun h76 => ?_) (fun h76 => ?_) | refine r_if_eq (tgt := 91) dX8_isFit_76 (by decide) (fun h76 => ?_) (fun h76 => ?_)
    · refine r_iload_n dX8_isFit_91 rfl ?_
      exact last o (e1 h76).symm
    refine r_iload_n dX8_isFit_79 rfl ?_
    refine r_callS s_X8_142_s dX8_isFit_80 (by rfl) rfl (Nat.le_of_ble_eq_true rfl) (m_isPut s (by omega) (nm_e ?_))
    refine mK_r ?_
    first | refine r_if_eq_b (tgt := 91) dX8_isFit_83 (by decide) (fun h83 => ?_) (fun h83 => ?_) | refine r_if_eq_n (tgt := 91) dX8_isFit_83 (by decide) (by omega) (fun h83 => ?_) (fun h83 => ?_) | refine r_if_eq (tgt := 91) dX8_isFit_83 (by decide) (fun h83 => ?_) (fun h83 => ?_)
    · refine r_iload_n dX8_isFit_91 rfl ?_
      exact last o (e2 h76 (of_decide_eq_false h83)).symm
    refine r_iload dX8_isFit_86 rfl ?_
    refine r_goto (tgt := 92) dX8_isFit_88 (by decide) ?_
    exact last t' (e3 h76 (of_decide_eq_true h83)).symm
  have l20 : (4 ≤ s ∧ s ≤ 6) → inR o 0 4 = false → mW G zX8_isFit (d + 2) 20 [some (.ref m), some (.int (nI k)), some (.int (nI s)), some (.int o), some (.int t'), none, none, none] [] M t u Q := by
    intro h4 h5
    refine r_iconst (v := nI 0) dX8_isFit_20 (by decide) ?_
    refine r_istore dX8_isFit_21 (by decide) ?_
    simp only [mst1, mclr]
    refine r_iload dX8_isFit_23 rfl ?_
    refine r_if_eq_n (tgt := 63) dX8_isFit_25 (by decide) (by omega) (fun h25 => ?_) (fun h25 => by exfalso; omega)
    exact bad false o (by unfold clBad; rw [if_pos ⟨h4, by rw [h5]; decide⟩]) (fun _ => rfl) (fun h => absurd h (by decide)) (fun h => absurd h (by decide))
  have l16 : ((4 ≤ s ∧ s ≤ 6) → inR o 0 4 = true) → mW G zX8_isFit (d + 2) 16 [some (.ref m), some (.int (nI k)), some (.int (nI s)), some (.int o), some (.int t'), none, none, none] [] M t u Q := by
    intro h4
    have n1 : ¬ ((4 ≤ s ∧ s ≤ 6) ∧ ¬ inR o 0 4 = true) := fun h => h.2 (h4 h.1)
    have l43 : ¬ ((s = 2 ∨ s = 3) ∧ ¬ inB o (A 1 0) = true) → mW G zX8_isFit (d + 2) 43 [some (.ref m), some (.int (nI k)), some (.int (nI s)), some (.int o), some (.int t'), some (.int (nI 1)), none, none] [] M t u Q := by
      intro n2
      refine r_iload_n dX8_isFit_43 rfl ?_
      refine r_callS s_X8_142_s dX8_isFit_44 (by rfl) rfl (Nat.le_of_ble_eq_true rfl) (m_isPut s (by omega) (nm_e ?_))
      refine mK_r ?_
      first | refine r_if_eq_b (tgt := 59) dX8_isFit_47 (by decide) (fun h47 => ?_) (fun h47 => ?_) | refine r_if_eq_n (tgt := 59) dX8_isFit_47 (by decide) (by omega) (fun h47 => ?_) (fun h47 => ?_) | refine r_if_eq (tgt := 59) dX8_isFit_47 (by decide) (fun h47 => ?_) (fun h47 => ?_)
      · have n3 := of_decide_eq_false h47
        exact good (by unfold clBad; rw [if_neg n1, if_neg n2, if_neg (fun h => n3 h.1)])
      have n3 := of_decide_eq_true h47
      first | refine r_aload_n dX8_isFit_50 rfl ?_ | refine r_aload_nq dX8_isFit_50 rfl ?_ | refine r_aload_nN dX8_isFit_50 rfl ?_
      refine r_iload dX8_isFit_51 rfl ?_
      refine r_callV s_X8_100_v dX8_isFit_53 (by first | exact MAt.o (by assumption) | exact MAt.a1 (by assumption) | exact MAt.a2 (by assumption) | exact MAt.a3 (by assumption) | exact MAt.a4 (by assumption) | exact MAt.a5 (by assumption) | exact MAt.a6 (by assumption) | exact MAt.a7 (by assumption) | exact MAt.a8 (by assumption) | exact MAt.a9 (by assumption) | exact MAt.a10 (by assumption) | exact MAt.a11 (by assumption) | exact MAt.a12 (by assumption) | exact MAt.a13 (by assumption) | exact MAt.a14 (by assumption) | exact MAt.a15 (by assumption) | exact MAt.a16 (by assumption)) (by rfl) rfl (Nat.le_of_ble_eq_true rfl) (m_isGood h _ (nm_e ?_))
      refine mK_r ?_
      first | refine r_if_eq_b (tgt := 63) dX8_isFit_56 (by decide) (fun h56 => ?_) (fun h56 => ?_) | refine r_if_eq_n (tgt := 63) dX8_isFit_56 (by decide) (by omega) (fun h56 => ?_) (fun h56 => ?_) | refine r_if_eq (tgt := 63) dX8_isFit_56 (by decide) (fun h56 => ?_) (fun h56 => ?_)
      · exact bad true t' (by unfold clBad; rw [if_neg n1, if_neg n2, if_pos ⟨n3, by rw [h56]; decide⟩]) (fun h => absurd h (by decide)) (fun _ h => absurd n3 h) (fun _ _ => rfl)
      · exact good (by unfold clBad; rw [if_neg n1, if_neg n2, if_neg (fun h => h.2 h56)])
    refine r_iconst (v := nI 1) dX8_isFit_16 (by decide) ?_
    refine r_goto (tgt := 21) dX8_isFit_17 (by decide) ?_
    refine r_istore dX8_isFit_21 (by decide) ?_
    simp only [mst1, mclr]
    refine r_iload dX8_isFit_23 rfl ?_
    refine r_if_eq_n (tgt := 63) dX8_isFit_25 (by decide) (by omega) (fun h25 => by exfalso; omega) (fun h25 => ?_)
    refine r_iload_n dX8_isFit_28 rfl ?_
    refine r_callS s_X8_139_s dX8_isFit_29 (by rfl) rfl (Nat.le_of_ble_eq_true rfl) (m_hasGood s (by omega) (nm_e ?_))
    refine mK_r ?_
    first | refine r_if_eq_b (tgt := 43) dX8_isFit_32 (by decide) (fun h32 => ?_) (fun h32 => ?_) | refine r_if_eq_n (tgt := 43) dX8_isFit_32 (by decide) (by omega) (fun h32 => ?_) (fun h32 => ?_) | refine r_if_eq (tgt := 43) dX8_isFit_32 (by decide) (fun h32 => ?_) (fun h32 => ?_)
    · have n2 := of_decide_eq_false h32
      exact l43 (fun h => n2 h.1)
    have n2 := of_decide_eq_true h32
    first | refine r_aload_n dX8_isFit_35 rfl ?_ | refine r_aload_nq dX8_isFit_35 rfl ?_ | refine r_aload_nN dX8_isFit_35 rfl ?_
    refine r_iload_n dX8_isFit_36 rfl ?_
    refine r_callV s_X8_100_v dX8_isFit_37 (by first | exact MAt.o (by assumption) | exact MAt.a1 (by assumption) | exact MAt.a2 (by assumption) | exact MAt.a3 (by assumption) | exact MAt.a4 (by assumption) | exact MAt.a5 (by assumption) | exact MAt.a6 (by assumption) | exact MAt.a7 (by assumption) | exact MAt.a8 (by assumption) | exact MAt.a9 (by assumption) | exact MAt.a10 (by assumption) | exact MAt.a11 (by assumption) | exact MAt.a12 (by assumption) | exact MAt.a13 (by assumption) | exact MAt.a14 (by assumption) | exact MAt.a15 (by assumption) | exact MAt.a16 (by assumption)) (by rfl) rfl (Nat.le_of_ble_eq_true rfl) (m_isGood h _ (nm_e ?_))
    refine mK_r ?_
    first | refine r_if_eq_b (tgt := 63) dX8_isFit_40 (by decide) (fun h40 => ?_) (fun h40 => ?_) | refine r_if_eq_n (tgt := 63) dX8_isFit_40 (by decide) (by omega) (fun h40 => ?_) (fun h40 => ?_) | refine r_if_eq (tgt := 63) dX8_isFit_40 (by decide) (fun h40 => ?_) (fun h40 => ?_)
    · exact bad true o (by unfold clBad; rw [if_neg n1, if_pos ⟨n2, by rw [h40]; decide⟩]) (fun _ => rfl) (fun _ _ => rfl) (fun _ h => absurd h (by omega))
    · exact l43 (fun h => h.2 h40)
  refine r_iload_n dX8_isFit_0 rfl ?_
  refine r_callS s_X8_136_s dX8_isFit_1 (by rfl) rfl (Nat.le_of_ble_eq_true rfl) (m_hasPlough s hs (nm_e ?_))
  refine mK_r ?_
  first | refine r_if_eq_b (tgt := 16) dX8_isFit_4 (by decide) (fun h4 => ?_) (fun h4 => ?_) | refine r_if_eq_n (tgt := 16) dX8_isFit_4 (by decide) (by omega) (fun h4 => ?_) (fun h4 => ?_) | refine r_if_eq (tgt := 16) dX8_isFit_4 (by decide) (fun h4 => ?_) (fun h4 => ?_)
  · have n2 := of_decide_eq_false h4
    exact l16 (fun h => absurd h n2)
  have n2 := of_decide_eq_true h4
  refine r_iload_n dX8_isFit_7 rfl ?_
  refine r_iconst (v := nI 0) dX8_isFit_8 (by decide) ?_
  refine r_iconst (v := nI 4) dX8_isFit_9 (by decide) ?_
  refine r_callS s_X8_82_s dX8_isFit_10 (by rfl) rfl (Nat.le_of_ble_eq_true rfl) (m_in _ _ _ (nm_e ?_))
  refine mK_r ?_
  first | refine r_if_eq_b (tgt := 20) dX8_isFit_13 (by decide) (fun h13 => ?_) (fun h13 => ?_) | refine r_if_eq_n (tgt := 20) dX8_isFit_13 (by decide) (by omega) (fun h13 => ?_) (fun h13 => ?_) | refine r_if_eq (tgt := 20) dX8_isFit_13 (by decide) (fun h13 => ?_) (fun h13 => ?_)
  · exact l20 n2 h13
  · exact l16 (fun _ => h13)
theorem m_sets (h : MAt B M m F D A) (hb : mGb G ≤ m) (k s : Nat) (hk : k < 24) (hs : s < 100) (o t' : Int32) (h1 : 2 ≤ s ∧ s ≤ 6 → o = nI (clOne s o)) (h2 : s = 4 ∨ s = 5 → t' = nI (clTwo s t'))
   (hq : ∀ M, MAt B M m F D (fA A 1 (fU (fU (fU (A 1) (37 + 3 * k) s) (38 + 3 * k) (clOne s o)) (39 + 3 * k) (clTwo s t'))) → Q (.inl none) M t u) : mMet G (d + 2) zX8_sets [.ref m, .int (nI k), .int (nI s), .int o, .int t'] M t u Q := by
  refine m_intro (by decide +kernel) ⟨Nat.le_of_ble_eq_true rfl, Nat.le_of_ble_eq_true rfl⟩ ?_
  show mW G _ _ 0 [some (.ref m), some (.int (nI k)), some (.int (nI s)), some (.int o), some (.int t')] [] _ _ _ _
  have last : ∀ M, MAt B M m F D (fA A 1 (fU (fU (A 1) (37 + 3 * k) s) (38 + 3 * k) (clOne s o))) → mW G zX8_sets (d + 2) 44 [some (.ref m), some (.int (nI k)), some (.int (nI s)), some (.int o), some (.int t')] [] M t u Q := by
    intro M hM
    have fin : ∀ v, v = nI (clTwo s t') → mW G zX8_sets (d + 2) 69 [some (.ref m), some (.int (nI k)), some (.int (nI s)), some (.int o), some (.int t')] [.int v, .int (nI (37 + 3 * k + 2)), .ref (m + 1)] M t u Q := by
      intro v hv
      subst hv
      refine r_iast_n (by first | exact MAt.o (by assumption) | exact MAt.a1 (by assumption) | exact MAt.a2 (by assumption) | exact MAt.a3 (by assumption) | exact MAt.a4 (by assumption) | exact MAt.a5 (by assumption) | exact MAt.a6 (by assumption) | exact MAt.a7 (by assumption) | exact MAt.a8 (by assumption) | exact MAt.a9 (by assumption) | exact MAt.a10 (by assumption) | exact MAt.a11 (by assumption) | exact MAt.a12 (by assumption) | exact MAt.a13 (by assumption) | exact MAt.a14 (by assumption) | exact MAt.a15 (by assumption) | exact MAt.a16 (by assumption)) (by rfl) (by omega) (by omega) (by omega) dX8_sets_69 ?_
      first | refine MAt.g1 (by assumption) (fun M hM => ?_) | refine MAt.g2 (by assumption) (fun M hM => ?_) | refine MAt.g3 (by assumption) (fun M hM => ?_) | refine MAt.g4 (by assumption) (fun M hM => ?_) | refine MAt.g5 (by assumption) (fun M hM => ?_) | refine MAt.g6 (by assumption) (fun M hM => ?_) | refine MAt.g7 (by assumption) (fun M hM => ?_) | refine MAt.g8 (by assumption) (fun M hM => ?_) | refine MAt.g9 (by assumption) (fun M hM => ?_) | refine MAt.g16 (by assumption) (fun M hM => ?_) | refine MAt.g10 _ (by assumption) ?_ (fun M hM => ?_) | refine MAt.g11 _ (by assumption) ?_ (fun M hM => ?_) | refine MAt.g12 _ (by assumption) ?_ (fun M hM => ?_)
      refine r_vret rfl dX8_sets_70 ?_
      refine hq _ ?_
      have e : fA (fA A 1 (fU (fU (A 1) (37 + 3 * k) s) (38 + 3 * k) (clOne s o))) 1 (fU (fA A 1 (fU (fU (A 1) (37 + 3 * k) s) (38 + 3 * k) (clOne s o)) 1) (37 + 3 * k + 2) (clTwo s t')) = fA A 1 (fU (fU (fU (A 1) (37 + 3 * k) s) (38 + 3 * k) (clOne s o)) (39 + 3 * k) (clTwo s t')) := by
        rw [fA_eq, show 37 + 3 * k + 2 = 39 + 3 * k by omega]
        funext q; unfold fA; split <;> rfl
      rw [← e]; exact hM
    first | refine r_aload_n dX8_sets_44 rfl ?_ | refine r_aload_nq dX8_sets_44 rfl ?_ | refine r_aload_nN dX8_sets_44 rfl ?_
    refine r_getf f_X8_9_7 (by first | exact MAt.o (by assumption) | exact MAt.a1 (by assumption) | exact MAt.a2 (by assumption) | exact MAt.a3 (by assumption) | exact MAt.a4 (by assumption) | exact MAt.a5 (by assumption) | exact MAt.a6 (by assumption) | exact MAt.a7 (by assumption) | exact MAt.a8 (by assumption) | exact MAt.a9 (by assumption) | exact MAt.a10 (by assumption) | exact MAt.a11 (by assumption) | exact MAt.a12 (by assumption) | exact MAt.a13 (by assumption) | exact MAt.a14 (by assumption) | exact MAt.a15 (by assumption) | exact MAt.a16 (by assumption)) (by rfl) dX8_sets_45 ?_
    refine r_bipush (v := nI 37) dX8_sets_48 (by decide) ?_
    refine r_iconst (v := nI 3) dX8_sets_50 (by decide) ?_
    refine r_iload_n dX8_sets_51 rfl ?_
    first | refine r_imul_n dX8_sets_52 ?_ | refine r_imul dX8_sets_52 ?_
    first | refine r_iadd_n dX8_sets_53 ?_ | refine r_iadd dX8_sets_53 ?_
    refine r_iconst (v := nI 2) dX8_sets_54 (by decide) ?_
    first | refine r_iadd_n dX8_sets_55 ?_ | refine r_iadd dX8_sets_55 ?_
    refine r_iload_n dX8_sets_56 rfl ?_
    refine r_callS s_X8_142_s dX8_sets_57 (by rfl) rfl (Nat.le_of_ble_eq_true rfl) (m_isPut s (by omega) (nm_e ?_))
    refine mK_r ?_
    first | refine r_if_eq_b (tgt := 68) dX8_sets_60 (by decide) (fun h60 => ?_) (fun h60 => ?_) | refine r_if_eq_n (tgt := 68) dX8_sets_60 (by decide) (by omega) (fun h60 => ?_) (fun h60 => ?_) | refine r_if_eq (tgt := 68) dX8_sets_60 (by decide) (fun h60 => ?_) (fun h60 => ?_)
    · refine r_iconst (v := nI 0) dX8_sets_68 (by decide) ?_
      have := of_decide_eq_false h60
      exact fin _ (by unfold clTwo; rw [if_neg this])
    · refine r_iload dX8_sets_63 rfl ?_
      refine r_goto (tgt := 69) dX8_sets_65 (by decide) ?_
      have := of_decide_eq_true h60
      exact fin _ (h2 this)
  have fin : ∀ M v, MAt B M m F D (fA A 1 (fU (A 1) (37 + 3 * k) s)) → v = nI (clOne s o) → mW G zX8_sets (d + 2) 43 [some (.ref m), some (.int (nI k)), some (.int (nI s)), some (.int o), some (.int t')] [.int v, .int (nI (37 + 3 * k + 1)), .ref (m + 1)] M t u Q := by
    intro M v hM hv
    subst hv
    refine r_iast_n (by first | exact MAt.o (by assumption) | exact MAt.a1 (by assumption) | exact MAt.a2 (by assumption) | exact MAt.a3 (by assumption) | exact MAt.a4 (by assumption) | exact MAt.a5 (by assumption) | exact MAt.a6 (by assumption) | exact MAt.a7 (by assumption) | exact MAt.a8 (by assumption) | exact MAt.a9 (by assumption) | exact MAt.a10 (by assumption) | exact MAt.a11 (by assumption) | exact MAt.a12 (by assumption) | exact MAt.a13 (by assumption) | exact MAt.a14 (by assumption) | exact MAt.a15 (by assumption) | exact MAt.a16 (by assumption)) (by rfl) (by omega) (by omega) (by omega) dX8_sets_43 ?_
    first | refine MAt.g1 (by assumption) (fun M hM => ?_) | refine MAt.g2 (by assumption) (fun M hM => ?_) | refine MAt.g3 (by assumption) (fun M hM => ?_) | refine MAt.g4 (by assumption) (fun M hM => ?_) | refine MAt.g5 (by assumption) (fun M hM => ?_) | refine MAt.g6 (by assumption) (fun M hM => ?_) | refine MAt.g7 (by assumption) (fun M hM => ?_) | refine MAt.g8 (by assumption) (fun M hM => ?_) | refine MAt.g9 (by assumption) (fun M hM => ?_) | refine MAt.g16 (by assumption) (fun M hM => ?_) | refine MAt.g10 _ (by assumption) ?_ (fun M hM => ?_) | refine MAt.g11 _ (by assumption) ?_ (fun M hM => ?_) | refine MAt.g12 _ (by assumption) ?_ (fun M hM => ?_)
    refine last _ ?_
    have e : fA (fA A 1 (fU (A 1) (37 + 3 * k) s)) 1 (fU (fA A 1 (fU (A 1) (37 + 3 * k) s) 1) (37 + 3 * k + 1) (clOne s o)) = fA A 1 (fU (fU (A 1) (37 + 3 * k) s) (38 + 3 * k) (clOne s o)) := by
      rw [fA_eq, show 37 + 3 * k + 1 = 38 + 3 * k by omega]
      funext q; unfold fA; split <;> rfl
    rw [← e]; exact hM
  first | refine r_aload_n dX8_sets_0 rfl ?_ | refine r_aload_nq dX8_sets_0 rfl ?_ | refine r_aload_nN dX8_sets_0 rfl ?_
  refine r_getf f_X8_9_7 (by first | exact MAt.o (by assumption) | exact MAt.a1 (by assumption) | exact MAt.a2 (by assumption) | exact MAt.a3 (by assumption) | exact MAt.a4 (by assumption) | exact MAt.a5 (by assumption) | exact MAt.a6 (by assumption) | exact MAt.a7 (by assumption) | exact MAt.a8 (by assumption) | exact MAt.a9 (by assumption) | exact MAt.a10 (by assumption) | exact MAt.a11 (by assumption) | exact MAt.a12 (by assumption) | exact MAt.a13 (by assumption) | exact MAt.a14 (by assumption) | exact MAt.a15 (by assumption) | exact MAt.a16 (by assumption)) (by rfl) dX8_sets_1 ?_
  refine r_bipush (v := nI 37) dX8_sets_4 (by decide) ?_
  refine r_iconst (v := nI 3) dX8_sets_6 (by decide) ?_
  refine r_iload_n dX8_sets_7 rfl ?_
  first | refine r_imul_n dX8_sets_8 ?_ | refine r_imul dX8_sets_8 ?_
  first | refine r_iadd_n dX8_sets_9 ?_ | refine r_iadd dX8_sets_9 ?_
  refine r_iload_n dX8_sets_10 rfl ?_
  refine r_iast_n (by first | exact MAt.o (by assumption) | exact MAt.a1 (by assumption) | exact MAt.a2 (by assumption) | exact MAt.a3 (by assumption) | exact MAt.a4 (by assumption) | exact MAt.a5 (by assumption) | exact MAt.a6 (by assumption) | exact MAt.a7 (by assumption) | exact MAt.a8 (by assumption) | exact MAt.a9 (by assumption) | exact MAt.a10 (by assumption) | exact MAt.a11 (by assumption) | exact MAt.a12 (by assumption) | exact MAt.a13 (by assumption) | exact MAt.a14 (by assumption) | exact MAt.a15 (by assumption) | exact MAt.a16 (by assumption)) (by rfl) (by omega) (by omega) (by omega) dX8_sets_11 ?_
  first | refine MAt.g1 (by assumption) (fun M hM => ?_) | refine MAt.g2 (by assumption) (fun M hM => ?_) | refine MAt.g3 (by assumption) (fun M hM => ?_) | refine MAt.g4 (by assumption) (fun M hM => ?_) | refine MAt.g5 (by assumption) (fun M hM => ?_) | refine MAt.g6 (by assumption) (fun M hM => ?_) | refine MAt.g7 (by assumption) (fun M hM => ?_) | refine MAt.g8 (by assumption) (fun M hM => ?_) | refine MAt.g9 (by assumption) (fun M hM => ?_) | refine MAt.g16 (by assumption) (fun M hM => ?_) | refine MAt.g10 _ (by assumption) ?_ (fun M hM => ?_) | refine MAt.g11 _ (by assumption) ?_ (fun M hM => ?_) | refine MAt.g12 _ (by assumption) ?_ (fun M hM => ?_)
  first | refine r_aload_n dX8_sets_12 rfl ?_ | refine r_aload_nq dX8_sets_12 rfl ?_ | refine r_aload_nN dX8_sets_12 rfl ?_
  refine r_getf f_X8_9_7 (by first | exact MAt.o (by assumption) | exact MAt.a1 (by assumption) | exact MAt.a2 (by assumption) | exact MAt.a3 (by assumption) | exact MAt.a4 (by assumption) | exact MAt.a5 (by assumption) | exact MAt.a6 (by assumption) | exact MAt.a7 (by assumption) | exact MAt.a8 (by assumption) | exact MAt.a9 (by assumption) | exact MAt.a10 (by assumption) | exact MAt.a11 (by assumption) | exact MAt.a12 (by assumption) | exact MAt.a13 (by assumption) | exact MAt.a14 (by assumption) | exact MAt.a15 (by assumption) | exact MAt.a16 (by assumption)) (by rfl) dX8_sets_13 ?_
  refine r_bipush (v := nI 37) dX8_sets_16 (by decide) ?_
  refine r_iconst (v := nI 3) dX8_sets_18 (by decide) ?_
  refine r_iload_n dX8_sets_19 rfl ?_
  first | refine r_imul_n dX8_sets_20 ?_ | refine r_imul dX8_sets_20 ?_
  first | refine r_iadd_n dX8_sets_21 ?_ | refine r_iadd dX8_sets_21 ?_
  refine r_iconst (v := nI 1) dX8_sets_22 (by decide) ?_
  first | refine r_iadd_n dX8_sets_23 ?_ | refine r_iadd dX8_sets_23 ?_
  refine r_iload_n dX8_sets_24 rfl ?_
  refine r_callS s_X8_136_s dX8_sets_25 (by rfl) rfl (Nat.le_of_ble_eq_true rfl) (m_hasPlough s hs (nm_e ?_))
  refine mK_r ?_
  first | refine r_if_ne_b (tgt := 38) dX8_sets_28 (by decide) (fun h28 => ?_) (fun h28 => ?_) | refine r_if_ne_n (tgt := 38) dX8_sets_28 (by decide) (by omega) (fun h28 => ?_) (fun h28 => ?_) | refine r_if_ne (tgt := 38) dX8_sets_28 (by decide) (fun h28 => ?_) (fun h28 => ?_)
  · refine r_iload_n dX8_sets_38 rfl ?_
    refine r_goto (tgt := 43) dX8_sets_39 (by decide) ?_
    have := of_decide_eq_true h28
    exact fin _ _ hM (h1 (by omega))
  have n1 := of_decide_eq_false h28
  refine r_iload_n dX8_sets_31 rfl ?_
  refine r_callS s_X8_139_s dX8_sets_32 (by rfl) rfl (Nat.le_of_ble_eq_true rfl) (m_hasGood s hs (nm_e ?_))
  refine mK_r ?_
  first | refine r_if_eq_b (tgt := 42) dX8_sets_35 (by decide) (fun h35 => ?_) (fun h35 => ?_) | refine r_if_eq_n (tgt := 42) dX8_sets_35 (by decide) (by omega) (fun h35 => ?_) (fun h35 => ?_) | refine r_if_eq (tgt := 42) dX8_sets_35 (by decide) (fun h35 => ?_) (fun h35 => ?_)
  · refine r_iconst (v := nI 0) dX8_sets_42 (by decide) ?_
    have := of_decide_eq_false h35
    exact fin _ _ hM (by unfold clOne; rw [if_neg (by omega)])
  · refine r_iload_n dX8_sets_38 rfl ?_
    refine r_goto (tgt := 43) dX8_sets_39 (by decide) ?_
    have := of_decide_eq_true h35
    exact fin _ _ hM (h1 (by omega))
theorem clBad_none {n s : Nat} {o t' : Int32} (hs : s < 10) (hn : n < 2147483648) (h : clBad n s o t' = none) : (2 ≤ s ∧ s ≤ 6 → o = nI (clOne s o)) ∧ (s = 4 ∨ s = 5 → t' = nI (clTwo s t')) ∧ clOk n s (clOne s o) (clTwo s t') := by
  unfold clBad at h
  split at h
  · cases h
  rename_i n1
  split at h
  · cases h
  rename_i n2
  split at h
  · cases h
  rename_i n3
  have a1 : 4 ≤ s ∧ s ≤ 6 → ∃ j, j ≤ 4 ∧ o = nI j := fun h => by
    have : inR o 0 4 = true := by cases hx : inR o 0 4; exact absurd ⟨h, by rw [hx]; decide⟩ n1; rfl
    obtain ⟨j, _, hj, e⟩ := (inR_iff (lo := 0) (hi := 4) (by decide) (by decide)).mp this
    exact ⟨j, hj, e⟩
  have a2 : s = 2 ∨ s = 3 → ∃ j, j < n ∧ o = nI j := fun h => by
    have : inB o n = true := by cases hx : inB o n; exact absurd ⟨h, by rw [hx]; decide⟩ n2; rfl
    exact (inB_iff hn).mp this
  have a3 : s = 4 ∨ s = 5 → ∃ j, j < n ∧ t' = nI j := fun h => by
    have : inB t' n = true := by cases hx : inB t' n; exact absurd ⟨h, by rw [hx]; decide⟩ n3; rfl
    exact (inB_iff hn).mp this
  refine ⟨fun h => ?_, fun h => ?_, hs, fun h => ?_, fun h => ?_, fun h => ?_, fun h => ?_, fun h => ?_⟩
  · rcases (show (4 ≤ s ∧ s ≤ 6) ∨ (s = 2 ∨ s = 3) by omega) with h' | h'
    · obtain ⟨j, hj, rfl⟩ := a1 h'
      unfold clOne; rw [if_pos (by omega), nI_cl (by omega)]
    · obtain ⟨j, hj, rfl⟩ := a2 h'
      unfold clOne; rw [if_pos (by omega), nI_cl (by omega)]
  · obtain ⟨j, hj, rfl⟩ := a3 h
    unfold clTwo; rw [if_pos (by omega), nI_cl (by omega)]
  · obtain ⟨j, hj, rfl⟩ := a1 h
    clear a1 a2 a3
    unfold clOne; rw [if_pos (by omega), nI_cl (by omega)]; omega
  · obtain ⟨j, hj, rfl⟩ := a2 h
    clear a1 a2 a3
    unfold clOne; rw [if_pos (by omega), nI_cl (by omega)]; exact hj
  · obtain ⟨j, hj, rfl⟩ := a3 h
    clear a1 a2 a3
    unfold clTwo; rw [if_pos (by omega), nI_cl (by omega)]; exact hj
  · unfold clOne; rw [if_neg (by omega)]
  · unfold clTwo; rw [if_neg (by omega)]
theorem m_doInsert (h : MAt B M m F (xD X) A) (hP : MP F A X) (hR : mR (xW X) (A 1)) (hb : mGb G ≤ m) (hcg' : wcg (xW X) < 1000) (p e : Nat) (s o t' : Int32) (hp : p ≤ wn (xW X)) (he : 0 < e ∧ e < 5)
   (hF : ∀ M F' k X', spIns X e p s o t' = (k, 0, X') → 0 < k → k < 10 → MAt B M m F' (xD X') A → MP F' A X' → F' 6 = k → xW X' = xW X → Q (.inl (some (.int 0))) M t u)
   (hD : ∀ M A' W', spIns X e p s o t' = (0, nI (wn (xW X) + 1), xDo X W') → MAt B M m F (xD X) A' → MP F A' X → mR W' (A' 1) → A' 2 = A 2 → wOk (wChg W') → Q (.inl (some (.int (nI (wn (xW X) + 1))))) M t u) : mMet G (d + 3) zX8_doInsert [.ref m, .int (nI p), .int s, .int o, .int t', .int (nI e)] M t u Q := by
  refine m_intro (by decide +kernel) ⟨Nat.le_of_ble_eq_true rfl, Nat.le_of_ble_eq_true rfl⟩ ?_
  show mW G _ _ 0 [some (.ref m), some (.int (nI p)), some (.int s), some (.int o), some (.int t'), some (.int (nI e)), none] [] _ _ _ _
  obtain ⟨⟨e0, hm⟩, ⟨e1, hn⟩, ⟨e2, hcg⟩, e3, e4, e5⟩ := mR_up hP.1.1 hR
  unfold spIns at hF hD
  refine r_iload_n dX8_doInsert_0 rfl ?_
  refine r_iconst (v := nI 0) dX8_doInsert_1 (by decide) ?_
  refine r_bipush (v := nI 9) dX8_doInsert_2 (by decide) ?_
  refine r_callS s_X8_82_s dX8_doInsert_4 (by rfl) rfl (Nat.le_of_ble_eq_true rfl) (m_in _ _ _ (nm_e ?_))
  refine mK_r ?_
  first | refine r_if_ne_b (tgt := 17) dX8_doInsert_7 (by decide) (fun h7 => ?_) (fun h7 => ?_) | refine r_if_ne_n (tgt := 17) dX8_doInsert_7 (by decide) (by omega) (fun h7 => ?_) (fun h7 => ?_) | refine r_if_ne (tgt := 17) dX8_doInsert_7 (by decide) (fun h7 => ?_) (fun h7 => ?_)
  rotate_left
  · have h7 : inR s 0 9 = false := h7
    first | refine r_aload_n dX8_doInsert_10 rfl ?_ | refine r_aload_nq dX8_doInsert_10 rfl ?_ | refine r_aload_nN dX8_doInsert_10 rfl ?_
    refine r_iload dX8_doInsert_11 rfl ?_
    refine r_callV s_X8_89_v dX8_doInsert_13 (by first | exact MAt.o (by assumption) | exact MAt.a1 (by assumption) | exact MAt.a2 (by assumption) | exact MAt.a3 (by assumption) | exact MAt.a4 (by assumption) | exact MAt.a5 (by assumption) | exact MAt.a6 (by assumption) | exact MAt.a7 (by assumption) | exact MAt.a8 (by assumption) | exact MAt.a9 (by assumption) | exact MAt.a10 (by assumption) | exact MAt.a11 (by assumption) | exact MAt.a12 (by assumption) | exact MAt.a13 (by assumption) | exact MAt.a14 (by assumption) | exact MAt.a15 (by assumption) | exact MAt.a16 (by assumption)) (by rfl) rfl (Nat.le_of_ble_eq_true rfl) (m_fails h hb e (fun M hM => ?_))
    refine mK_r ?_
    refine r_iret rfl (by first | rfl | exact bI_nar _) dX8_doInsert_16 ?_
    exact hF _ _ e X (if_pos (by rw [h7]; decide)) (by omega) (by omega) hM (hP.f6 e) rfl rfl
  have h7 : inR s 0 9 = true := h7
  obtain ⟨i, _, hi, rfl⟩ := (inR_iff (lo := 0) (hi := 9) (by decide) (by decide)).mp h7
  rw [if_neg (by rw [h7]; decide), nI_cl (by omega)] at hF hD
  first | refine r_aload_n dX8_doInsert_17 rfl ?_ | refine r_aload_nq dX8_doInsert_17 rfl ?_ | refine r_aload_nN dX8_doInsert_17 rfl ?_
  refine r_iload dX8_doInsert_18 rfl ?_
  refine r_iconst (v := nI 1) dX8_doInsert_20 (by decide) ?_
  first | refine r_iadd_n dX8_doInsert_21 ?_ | refine r_iadd dX8_doInsert_21 ?_
  refine r_iload_n dX8_doInsert_22 rfl ?_
  refine r_iload_n dX8_doInsert_23 rfl ?_
  refine r_iload dX8_doInsert_24 rfl ?_
  refine r_callV s_X8_145_v dX8_doInsert_26 (by first | exact MAt.o (by assumption) | exact MAt.a1 (by assumption) | exact MAt.a2 (by assumption) | exact MAt.a3 (by assumption) | exact MAt.a4 (by assumption) | exact MAt.a5 (by assumption) | exact MAt.a6 (by assumption) | exact MAt.a7 (by assumption) | exact MAt.a8 (by assumption) | exact MAt.a9 (by assumption) | exact MAt.a10 (by assumption) | exact MAt.a11 (by assumption) | exact MAt.a12 (by assumption) | exact MAt.a13 (by assumption) | exact MAt.a14 (by assumption) | exact MAt.a15 (by assumption) | exact MAt.a16 (by assumption)) (by rfl) rfl (Nat.le_of_ble_eq_true rfl) (m_isFit h hb (e + 1) i (by omega) o t' (fun hx => ?_) (fun dt hx M hM => ?_))
  refine mK_r ?_
  rotate_left
  · rw [e0] at hx
    simp only [hx] at hF
    refine mK_r ?_
    refine r_if_ne_b (tgt := 34) dX8_doInsert_29 (by decide) (fun h29 => absurd h29 (by decide)) (fun h29 => ?_)
    refine r_iconst (v := nI 0) dX8_doInsert_32 (by decide) ?_
    refine r_iret rfl (by first | rfl | exact bI_nar _) dX8_doInsert_33 ?_
    exact hF _ _ (e + 1) (xRef X 3 dt) rfl (by omega) (by omega) hM (hP.ref (e + 1) (by decide) dt) rfl rfl
  rw [e0] at hx
  simp only [hx] at hF hD
  obtain ⟨c1, c2, c3⟩ := clBad_none (by omega) (by omega) hx
  refine r_if_ne_b (tgt := 34) dX8_doInsert_29 (by decide) (fun h29 => ?_) (fun h29 => absurd h29 (by decide))
  first | refine r_aload_n dX8_doInsert_34 rfl ?_ | refine r_aload_nq dX8_doInsert_34 rfl ?_ | refine r_aload_nN dX8_doInsert_34 rfl ?_
  refine r_getf f_X8_9_7 (by first | exact MAt.o (by assumption) | exact MAt.a1 (by assumption) | exact MAt.a2 (by assumption) | exact MAt.a3 (by assumption) | exact MAt.a4 (by assumption) | exact MAt.a5 (by assumption) | exact MAt.a6 (by assumption) | exact MAt.a7 (by assumption) | exact MAt.a8 (by assumption) | exact MAt.a9 (by assumption) | exact MAt.a10 (by assumption) | exact MAt.a11 (by assumption) | exact MAt.a12 (by assumption) | exact MAt.a13 (by assumption) | exact MAt.a14 (by assumption) | exact MAt.a15 (by assumption) | exact MAt.a16 (by assumption)) (by rfl) dX8_doInsert_35 ?_
  refine r_iconst (v := nI 1) dX8_doInsert_38 (by decide) ?_
  refine r_iald_n (by first | exact MAt.o (by assumption) | exact MAt.a1 (by assumption) | exact MAt.a2 (by assumption) | exact MAt.a3 (by assumption) | exact MAt.a4 (by assumption) | exact MAt.a5 (by assumption) | exact MAt.a6 (by assumption) | exact MAt.a7 (by assumption) | exact MAt.a8 (by assumption) | exact MAt.a9 (by assumption) | exact MAt.a10 (by assumption) | exact MAt.a11 (by assumption) | exact MAt.a12 (by assumption) | exact MAt.a13 (by assumption) | exact MAt.a14 (by assumption) | exact MAt.a15 (by assumption) | exact MAt.a16 (by assumption)) (by rfl) (by omega) (by omega) dX8_doInsert_39 ?_
  refine r_istore dX8_doInsert_40 (by decide) ?_
  simp only [mst1, mclr]
  refine r_iload dX8_doInsert_42 rfl ?_
  refine r_bipush (v := nI 24) dX8_doInsert_44 (by decide) ?_
  first | refine r_icmp_ne_n (tgt := 61) dX8_doInsert_46 (by decide) (by omega) (by omega) (fun h46 => ?_) (fun h46 => ?_) | refine r_icmp_ne_pn (tgt := 61) dX8_doInsert_46 (by decide) (by omega) (by omega) (fun h46 => ?_) (fun h46 => ?_) | refine r_icmp_ne_pm (tgt := 61) dX8_doInsert_46 (by decide) (by omega) (fun h46 => ?_) (fun h46 => ?_) | refine r_icmp_ne (tgt := 61) dX8_doInsert_46 (by decide) (fun h46 => ?_) (fun h46 => ?_)
  rotate_left
  · rw [if_pos (by omega)] at hF
    first | refine r_aload_n dX8_doInsert_49 rfl ?_ | refine r_aload_nq dX8_doInsert_49 rfl ?_ | refine r_aload_nN dX8_doInsert_49 rfl ?_
    refine r_iload dX8_doInsert_50 rfl ?_
    refine r_iconst (v := nI 1) dX8_doInsert_52 (by decide) ?_
    first | refine r_iadd_n dX8_doInsert_53 ?_ | refine r_iadd dX8_doInsert_53 ?_
    refine r_iconst (v := nI 2) dX8_doInsert_54 (by decide) ?_
    refine r_bipush (v := nI 25) dX8_doInsert_55 (by decide) ?_
    refine r_callV s_X8_96_v dX8_doInsert_57 (by first | exact MAt.o (by assumption) | exact MAt.a1 (by assumption) | exact MAt.a2 (by assumption) | exact MAt.a3 (by assumption) | exact MAt.a4 (by assumption) | exact MAt.a5 (by assumption) | exact MAt.a6 (by assumption) | exact MAt.a7 (by assumption) | exact MAt.a8 (by assumption) | exact MAt.a9 (by assumption) | exact MAt.a10 (by assumption) | exact MAt.a11 (by assumption) | exact MAt.a12 (by assumption) | exact MAt.a13 (by assumption) | exact MAt.a14 (by assumption) | exact MAt.a15 (by assumption) | exact MAt.a16 (by assumption)) (by rfl) rfl (Nat.le_of_ble_eq_true rfl) (m_refuse h hb (e + 1) 2 _ (fun M hM => ?_))
    refine mK_r ?_
    refine r_iret rfl (by first | rfl | exact bI_nar _) dX8_doInsert_60 ?_
    exact hF _ _ (e + 1) (xRef X 2 (nI 25)) rfl (by omega) (by omega) hM (hP.ref (e + 1) (by decide) _) rfl rfl
  rw [if_neg (by omega)] at hD
  first | refine r_aload_n dX8_doInsert_61 rfl ?_ | refine r_aload_nq dX8_doInsert_61 rfl ?_ | refine r_aload_nN dX8_doInsert_61 rfl ?_
  refine r_getf f_X8_9_7 (by first | exact MAt.o (by assumption) | exact MAt.a1 (by assumption) | exact MAt.a2 (by assumption) | exact MAt.a3 (by assumption) | exact MAt.a4 (by assumption) | exact MAt.a5 (by assumption) | exact MAt.a6 (by assumption) | exact MAt.a7 (by assumption) | exact MAt.a8 (by assumption) | exact MAt.a9 (by assumption) | exact MAt.a10 (by assumption) | exact MAt.a11 (by assumption) | exact MAt.a12 (by assumption) | exact MAt.a13 (by assumption) | exact MAt.a14 (by assumption) | exact MAt.a15 (by assumption) | exact MAt.a16 (by assumption)) (by rfl) dX8_doInsert_62 ?_
  refine r_bipush (v := nI 37) dX8_doInsert_65 (by decide) ?_
  refine r_iconst (v := nI 3) dX8_doInsert_67 (by decide) ?_
  refine r_iload_n dX8_doInsert_68 rfl ?_
  first | refine r_imul_n dX8_doInsert_69 ?_ | refine r_imul dX8_doInsert_69 ?_
  first | refine r_iadd_n dX8_doInsert_70 ?_ | refine r_iadd dX8_doInsert_70 ?_
  first | refine r_aload_n dX8_doInsert_71 rfl ?_ | refine r_aload_nq dX8_doInsert_71 rfl ?_ | refine r_aload_nN dX8_doInsert_71 rfl ?_
  refine r_getf f_X8_9_7 (by first | exact MAt.o (by assumption) | exact MAt.a1 (by assumption) | exact MAt.a2 (by assumption) | exact MAt.a3 (by assumption) | exact MAt.a4 (by assumption) | exact MAt.a5 (by assumption) | exact MAt.a6 (by assumption) | exact MAt.a7 (by assumption) | exact MAt.a8 (by assumption) | exact MAt.a9 (by assumption) | exact MAt.a10 (by assumption) | exact MAt.a11 (by assumption) | exact MAt.a12 (by assumption) | exact MAt.a13 (by assumption) | exact MAt.a14 (by assumption) | exact MAt.a15 (by assumption) | exact MAt.a16 (by assumption)) (by rfl) dX8_doInsert_72 ?_
  refine r_bipush (v := nI 37) dX8_doInsert_75 (by decide) ?_
  refine r_iconst (v := nI 3) dX8_doInsert_77 (by decide) ?_
  refine r_iload_n dX8_doInsert_78 rfl ?_
  first | refine r_imul_n dX8_doInsert_79 ?_ | refine r_imul dX8_doInsert_79 ?_
  first | refine r_iadd_n dX8_doInsert_80 ?_ | refine r_iadd dX8_doInsert_80 ?_
  refine r_iconst (v := nI 3) dX8_doInsert_81 (by decide) ?_
  first | refine r_iadd_n dX8_doInsert_82 ?_ | refine r_iadd dX8_doInsert_82 ?_
  refine r_iconst (v := nI 3) dX8_doInsert_83 (by decide) ?_
  refine r_iload dX8_doInsert_84 rfl ?_
  refine r_iload_n dX8_doInsert_86 rfl ?_
  first | refine r_isub_n dX8_doInsert_87 (by omega) ?_ | refine r_isub dX8_doInsert_87 ?_
  first | refine r_imul_n dX8_doInsert_88 ?_ | refine r_imul dX8_doInsert_88 ?_
  refine r_mcopy (by first | exact MAt.o (by assumption) | exact MAt.a1 (by assumption) | exact MAt.a2 (by assumption) | exact MAt.a3 (by assumption) | exact MAt.a4 (by assumption) | exact MAt.a5 (by assumption) | exact MAt.a6 (by assumption) | exact MAt.a7 (by assumption) | exact MAt.a8 (by assumption) | exact MAt.a9 (by assumption) | exact MAt.a10 (by assumption) | exact MAt.a11 (by assumption) | exact MAt.a12 (by assumption) | exact MAt.a13 (by assumption) | exact MAt.a14 (by assumption) | exact MAt.a15 (by assumption) | exact MAt.a16 (by assumption)) (by first | exact MAt.o (by assumption) | exact MAt.a1 (by assumption) | exact MAt.a2 (by assumption) | exact MAt.a3 (by assumption) | exact MAt.a4 (by assumption) | exact MAt.a5 (by assumption) | exact MAt.a6 (by assumption) | exact MAt.a7 (by assumption) | exact MAt.a8 (by assumption) | exact MAt.a9 (by assumption) | exact MAt.a10 (by assumption) | exact MAt.a11 (by assumption) | exact MAt.a12 (by assumption) | exact MAt.a13 (by assumption) | exact MAt.a14 (by assumption) | exact MAt.a15 (by assumption) | exact MAt.a16 (by assumption)) q1836 (by omega) (by omega) (by decide) (by decide) (by omega) (Nat.le_of_ble_eq_true rfl) dX8_doInsert_89 ?_
  first | refine MAt.k1 (by assumption) (fun M hM => ?_) | refine MAt.k2 (by assumption) (fun M hM => ?_) | refine MAt.k3 (by assumption) (fun M hM => ?_) | refine MAt.k4 (by assumption) (fun M hM => ?_)
  obtain ⟨A', hlo, hmi, hP', hR2', hM'⟩ : ∃ A' : Nat → Nat → Nat, (∀ j, j < 37 + 3 * p + 3 → A' 1 j = A 1 j) ∧ (∀ k, p < k → k ≤ A 1 1 → A' 1 (37 + 3 * k) = A 1 (37 + 3 * (k - 1)) ∧ A' 1 (38 + 3 * k) = A 1 (38 + 3 * (k - 1)) ∧ A' 1 (39 + 3 * k) = A 1 (39 + 3 * (k - 1))) ∧ MP F A' X ∧ A' 2 = A 2 ∧ MAt B M m F (xD X) A' := by
    refine ⟨_, fun j hj => ?_, fun p h1 h2 => ⟨?_, ?_, ?_⟩, hP.a1 _, rfl, hM⟩
    · simp only [fA_eq, va_cpy]; rw [if_neg (by omega)]
    · simp only [fA_eq, va_cpy]; rw [if_pos (by omega)]; congr 1; omega
    · simp only [fA_eq, va_cpy]; rw [if_pos (by omega)]; congr 1; omega
    · simp only [fA_eq, va_cpy]; rw [if_pos (by omega)]; congr 1; omega
  clear hM
  first | refine r_aload_n dX8_doInsert_92 rfl ?_ | refine r_aload_nq dX8_doInsert_92 rfl ?_ | refine r_aload_nN dX8_doInsert_92 rfl ?_
  refine r_iload_n dX8_doInsert_93 rfl ?_
  refine r_iload_n dX8_doInsert_94 rfl ?_
  refine r_iload_n dX8_doInsert_95 rfl ?_
  refine r_iload dX8_doInsert_96 rfl ?_
  refine r_callV s_X8_149_v dX8_doInsert_98 (by first | exact MAt.o (by assumption) | exact MAt.a1 (by assumption) | exact MAt.a2 (by assumption) | exact MAt.a3 (by assumption) | exact MAt.a4 (by assumption) | exact MAt.a5 (by assumption) | exact MAt.a6 (by assumption) | exact MAt.a7 (by assumption) | exact MAt.a8 (by assumption) | exact MAt.a9 (by assumption) | exact MAt.a10 (by assumption) | exact MAt.a11 (by assumption) | exact MAt.a12 (by assumption) | exact MAt.a13 (by assumption) | exact MAt.a14 (by assumption) | exact MAt.a15 (by assumption) | exact MAt.a16 (by assumption)) (by rfl) rfl (Nat.le_of_ble_eq_true rfl) (m_sets hM' hb p i (by omega) (by omega) o t' c1 c2 (fun M hM => ?_))
  refine mK_v ?_
  have hs1 := hlo 1 (by omega)
  have hs2 : fA A' 1 (fU (fU (fU (A' 1) (37 + 3 * p) i) (38 + 3 * p) (clOne i o)) (39 + 3 * p) (clTwo i t')) 1 1 = A 1 1 := by rw [← hs1]; ((try simp only [wm_wGoods, wk_wGoods, ww_wGoods, wcm_wGoods, wch_wGoods, whu_wGoods, wn_wGoods, wso_wGoods, won_wGoods, wot_wGoods, wcg_wGoods, wm_wChest, wk_wChest, ww_wChest, wcm_wChest, wch_wChest, whu_wChest, wn_wChest, wso_wChest, won_wChest, wot_wChest, wcg_wChest, wm_wRate, wk_wRate, ww_wRate, wcm_wRate, wch_wRate, whu_wRate, wn_wRate, wso_wRate, won_wRate, wot_wRate, wcg_wRate, wm_wCl, wk_wCl, ww_wCl, wcm_wCl, wch_wCl, whu_wCl, wn_wCl, wso_wCl, won_wCl, wot_wCl, wcg_wCl, wm_wChg, wk_wChg, ww_wChg, wcm_wChg, wch_wChg, whu_wChg, wn_wChg, wso_wChg, won_wChg, wot_wChg, wcg_wChg, fA_eq, fU, f2, insF, delF]); (repeat' split) <;> (try first | omega | exact absurd trivial (by assumption)))
  first | refine r_aload_n dX8_doInsert_101 rfl ?_ | refine r_aload_nq dX8_doInsert_101 rfl ?_ | refine r_aload_nN dX8_doInsert_101 rfl ?_
  refine r_getf f_X8_9_7 (by first | exact MAt.o (by assumption) | exact MAt.a1 (by assumption) | exact MAt.a2 (by assumption) | exact MAt.a3 (by assumption) | exact MAt.a4 (by assumption) | exact MAt.a5 (by assumption) | exact MAt.a6 (by assumption) | exact MAt.a7 (by assumption) | exact MAt.a8 (by assumption) | exact MAt.a9 (by assumption) | exact MAt.a10 (by assumption) | exact MAt.a11 (by assumption) | exact MAt.a12 (by assumption) | exact MAt.a13 (by assumption) | exact MAt.a14 (by assumption) | exact MAt.a15 (by assumption) | exact MAt.a16 (by assumption)) (by rfl) dX8_doInsert_102 ?_
  refine r_iconst (v := nI 1) dX8_doInsert_105 (by decide) ?_
  refine r_dup2 dX8_doInsert_106 (by rfl) (by rfl) ?_
  refine r_iald_n (by first | exact MAt.o (by assumption) | exact MAt.a1 (by assumption) | exact MAt.a2 (by assumption) | exact MAt.a3 (by assumption) | exact MAt.a4 (by assumption) | exact MAt.a5 (by assumption) | exact MAt.a6 (by assumption) | exact MAt.a7 (by assumption) | exact MAt.a8 (by assumption) | exact MAt.a9 (by assumption) | exact MAt.a10 (by assumption) | exact MAt.a11 (by assumption) | exact MAt.a12 (by assumption) | exact MAt.a13 (by assumption) | exact MAt.a14 (by assumption) | exact MAt.a15 (by assumption) | exact MAt.a16 (by assumption)) (by rfl) (by omega) (by omega) dX8_doInsert_107 ?_
  refine r_iconst (v := nI 1) dX8_doInsert_108 (by decide) ?_
  first | refine r_iadd_n dX8_doInsert_109 ?_ | refine r_iadd dX8_doInsert_109 ?_
  refine r_iast_n (by first | exact MAt.o (by assumption) | exact MAt.a1 (by assumption) | exact MAt.a2 (by assumption) | exact MAt.a3 (by assumption) | exact MAt.a4 (by assumption) | exact MAt.a5 (by assumption) | exact MAt.a6 (by assumption) | exact MAt.a7 (by assumption) | exact MAt.a8 (by assumption) | exact MAt.a9 (by assumption) | exact MAt.a10 (by assumption) | exact MAt.a11 (by assumption) | exact MAt.a12 (by assumption) | exact MAt.a13 (by assumption) | exact MAt.a14 (by assumption) | exact MAt.a15 (by assumption) | exact MAt.a16 (by assumption)) (by rfl) (by omega) (by omega) (by omega) dX8_doInsert_110 ?_
  first | refine MAt.g1 (by assumption) (fun M hM => ?_) | refine MAt.g2 (by assumption) (fun M hM => ?_) | refine MAt.g3 (by assumption) (fun M hM => ?_) | refine MAt.g4 (by assumption) (fun M hM => ?_) | refine MAt.g5 (by assumption) (fun M hM => ?_) | refine MAt.g6 (by assumption) (fun M hM => ?_) | refine MAt.g7 (by assumption) (fun M hM => ?_) | refine MAt.g8 (by assumption) (fun M hM => ?_) | refine MAt.g9 (by assumption) (fun M hM => ?_) | refine MAt.g16 (by assumption) (fun M hM => ?_) | refine MAt.g10 _ (by assumption) ?_ (fun M hM => ?_) | refine MAt.g11 _ (by assumption) ?_ (fun M hM => ?_) | refine MAt.g12 _ (by assumption) ?_ (fun M hM => ?_)
  refine r_iload dX8_doInsert_111 rfl ?_
  refine r_iconst (v := nI 1) dX8_doInsert_113 (by decide) ?_
  first | refine r_iadd_n dX8_doInsert_114 ?_ | refine r_iadd dX8_doInsert_114 ?_
  refine r_iret rfl (by first | rfl | exact bI_nar _) dX8_doInsert_115 ?_
  rw [e1]
  refine hD _ _ (wIns (xW X) p i o t') rfl hM ((hP'.a1 _).a1 _) ?_ hR2' ?_
  · unfold wIns
    refine ⟨?_, ?_, ?_, fun c' hc => ⟨?_, ?_, fun p' hp => ?_⟩, fun g hg => ⟨?_, ?_⟩, fun k hk => ⟨?_, ?_, ?_⟩⟩
    · have := hlo 0 (by omega); ((try simp only [wm_wGoods, wk_wGoods, ww_wGoods, wcm_wGoods, wch_wGoods, whu_wGoods, wn_wGoods, wso_wGoods, won_wGoods, wot_wGoods, wcg_wGoods, wm_wChest, wk_wChest, ww_wChest, wcm_wChest, wch_wChest, whu_wChest, wn_wChest, wso_wChest, won_wChest, wot_wChest, wcg_wChest, wm_wRate, wk_wRate, ww_wRate, wcm_wRate, wch_wRate, whu_wRate, wn_wRate, wso_wRate, won_wRate, wot_wRate, wcg_wRate, wm_wCl, wk_wCl, ww_wCl, wcm_wCl, wch_wCl, whu_wCl, wn_wCl, wso_wCl, won_wCl, wot_wCl, wcg_wCl, wm_wChg, wk_wChg, ww_wChg, wcm_wChg, wch_wChg, whu_wChg, wn_wChg, wso_wChg, won_wChg, wot_wChg, wcg_wChg, fA_eq, fU, f2, insF, delF]); (repeat' split) <;> (try first | omega | exact absurd trivial (by assumption)))
    · rw [hs2]; ((try simp only [wm_wGoods, wk_wGoods, ww_wGoods, wcm_wGoods, wch_wGoods, whu_wGoods, wn_wGoods, wso_wGoods, won_wGoods, wot_wGoods, wcg_wGoods, wm_wChest, wk_wChest, ww_wChest, wcm_wChest, wch_wChest, whu_wChest, wn_wChest, wso_wChest, won_wChest, wot_wChest, wcg_wChest, wm_wRate, wk_wRate, ww_wRate, wcm_wRate, wch_wRate, whu_wRate, wn_wRate, wso_wRate, won_wRate, wot_wRate, wcg_wRate, wm_wCl, wk_wCl, ww_wCl, wcm_wCl, wch_wCl, whu_wCl, wn_wCl, wso_wCl, won_wCl, wot_wCl, wcg_wCl, wm_wChg, wk_wChg, ww_wChg, wcm_wChg, wch_wChg, whu_wChg, wn_wChg, wso_wChg, won_wChg, wot_wChg, wcg_wChg, fA_eq, fU, f2, insF, delF]); (repeat' split) <;> (try first | omega | exact absurd trivial (by assumption)))
    · have := hlo 2 (by omega); ((try simp only [wm_wGoods, wk_wGoods, ww_wGoods, wcm_wGoods, wch_wGoods, whu_wGoods, wn_wGoods, wso_wGoods, won_wGoods, wot_wGoods, wcg_wGoods, wm_wChest, wk_wChest, ww_wChest, wcm_wChest, wch_wChest, whu_wChest, wn_wChest, wso_wChest, won_wChest, wot_wChest, wcg_wChest, wm_wRate, wk_wRate, ww_wRate, wcm_wRate, wch_wRate, whu_wRate, wn_wRate, wso_wRate, won_wRate, wot_wRate, wcg_wRate, wm_wCl, wk_wCl, ww_wCl, wcm_wCl, wch_wCl, whu_wCl, wn_wCl, wso_wCl, won_wCl, wot_wCl, wcg_wCl, wm_wChg, wk_wChg, ww_wChg, wcm_wChg, wch_wChg, whu_wChg, wn_wChg, wso_wChg, won_wChg, wot_wChg, wcg_wChg, fA_eq, fU, f2, insF, delF]); (repeat' split) <;> (try first | omega | exact absurd trivial (by assumption)))
    · have := e3 c' hc; have := hlo (3 + c') (by omega); ((try simp only [wm_wGoods, wk_wGoods, ww_wGoods, wcm_wGoods, wch_wGoods, whu_wGoods, wn_wGoods, wso_wGoods, won_wGoods, wot_wGoods, wcg_wGoods, wm_wChest, wk_wChest, ww_wChest, wcm_wChest, wch_wChest, whu_wChest, wn_wChest, wso_wChest, won_wChest, wot_wChest, wcg_wChest, wm_wRate, wk_wRate, ww_wRate, wcm_wRate, wch_wRate, whu_wRate, wn_wRate, wso_wRate, won_wRate, wot_wRate, wcg_wRate, wm_wCl, wk_wCl, ww_wCl, wcm_wCl, wch_wCl, whu_wCl, wn_wCl, wso_wCl, won_wCl, wot_wCl, wcg_wCl, wm_wChg, wk_wChg, ww_wChg, wcm_wChg, wch_wChg, whu_wChg, wn_wChg, wso_wChg, won_wChg, wot_wChg, wcg_wChg, fA_eq, fU, f2, insF, delF]); (repeat' split) <;> (try first | omega | exact absurd trivial (by assumption)))
    · have := e3 c' hc; have := hlo (6 + c') (by omega); ((try simp only [wm_wGoods, wk_wGoods, ww_wGoods, wcm_wGoods, wch_wGoods, whu_wGoods, wn_wGoods, wso_wGoods, won_wGoods, wot_wGoods, wcg_wGoods, wm_wChest, wk_wChest, ww_wChest, wcm_wChest, wch_wChest, whu_wChest, wn_wChest, wso_wChest, won_wChest, wot_wChest, wcg_wChest, wm_wRate, wk_wRate, ww_wRate, wcm_wRate, wch_wRate, whu_wRate, wn_wRate, wso_wRate, won_wRate, wot_wRate, wcg_wRate, wm_wCl, wk_wCl, ww_wCl, wcm_wCl, wch_wCl, whu_wCl, wn_wCl, wso_wCl, won_wCl, wot_wCl, wcg_wCl, wm_wChg, wk_wChg, ww_wChg, wcm_wChg, wch_wChg, whu_wChg, wn_wChg, wso_wChg, won_wChg, wot_wChg, wcg_wChg, fA_eq, fU, f2, insF, delF]); (repeat' split) <;> (try first | omega | exact absurd trivial (by assumption)))
    · have h1 := (e3 c' hc).2.2.2.2 p' hp; have h2 := e3 c' hc; have hp : p' < wcm (xW X) c' := hp; have := hlo (9 + 4 * c' + p') (by omega); ((try simp only [wm_wGoods, wk_wGoods, ww_wGoods, wcm_wGoods, wch_wGoods, whu_wGoods, wn_wGoods, wso_wGoods, won_wGoods, wot_wGoods, wcg_wGoods, wm_wChest, wk_wChest, ww_wChest, wcm_wChest, wch_wChest, whu_wChest, wn_wChest, wso_wChest, won_wChest, wot_wChest, wcg_wChest, wm_wRate, wk_wRate, ww_wRate, wcm_wRate, wch_wRate, whu_wRate, wn_wRate, wso_wRate, won_wRate, wot_wRate, wcg_wRate, wm_wCl, wk_wCl, ww_wCl, wcm_wCl, wch_wCl, whu_wCl, wn_wCl, wso_wCl, won_wCl, wot_wCl, wcg_wCl, wm_wChg, wk_wChg, ww_wChg, wcm_wChg, wch_wChg, whu_wChg, wn_wChg, wso_wChg, won_wChg, wot_wChg, wcg_wChg, fA_eq, fU, f2, insF, delF]); (repeat' split) <;> (try first | omega | exact absurd trivial (by assumption)))
    · have hg : g < wm (xW X) := hg; have := e4 g hg; have := hlo (21 + g) (by omega); ((try simp only [wm_wGoods, wk_wGoods, ww_wGoods, wcm_wGoods, wch_wGoods, whu_wGoods, wn_wGoods, wso_wGoods, won_wGoods, wot_wGoods, wcg_wGoods, wm_wChest, wk_wChest, ww_wChest, wcm_wChest, wch_wChest, whu_wChest, wn_wChest, wso_wChest, won_wChest, wot_wChest, wcg_wChest, wm_wRate, wk_wRate, ww_wRate, wcm_wRate, wch_wRate, whu_wRate, wn_wRate, wso_wRate, won_wRate, wot_wRate, wcg_wRate, wm_wCl, wk_wCl, ww_wCl, wcm_wCl, wch_wCl, whu_wCl, wn_wCl, wso_wCl, won_wCl, wot_wCl, wcg_wCl, wm_wChg, wk_wChg, ww_wChg, wcm_wChg, wch_wChg, whu_wChg, wn_wChg, wso_wChg, won_wChg, wot_wChg, wcg_wChg, fA_eq, fU, f2, insF, delF]); (repeat' split) <;> (try first | omega | exact absurd trivial (by assumption)))
    · have hg : g < wm (xW X) := hg; have := e4 g hg; have := hlo (29 + g) (by omega); ((try simp only [wm_wGoods, wk_wGoods, ww_wGoods, wcm_wGoods, wch_wGoods, whu_wGoods, wn_wGoods, wso_wGoods, won_wGoods, wot_wGoods, wcg_wGoods, wm_wChest, wk_wChest, ww_wChest, wcm_wChest, wch_wChest, whu_wChest, wn_wChest, wso_wChest, won_wChest, wot_wChest, wcg_wChest, wm_wRate, wk_wRate, ww_wRate, wcm_wRate, wch_wRate, whu_wRate, wn_wRate, wso_wRate, won_wRate, wot_wRate, wcg_wRate, wm_wCl, wk_wCl, ww_wCl, wcm_wCl, wch_wCl, whu_wCl, wn_wCl, wso_wCl, won_wCl, wot_wCl, wcg_wCl, wm_wChg, wk_wChg, ww_wChg, wcm_wChg, wch_wChg, whu_wChg, wn_wChg, wso_wChg, won_wChg, wot_wChg, wcg_wChg, fA_eq, fU, f2, insF, delF]); (repeat' split) <;> (try first | omega | exact absurd trivial (by assumption)))
    · simp only [wm_wGoods, wk_wGoods, ww_wGoods, wcm_wGoods, wch_wGoods, whu_wGoods, wn_wGoods, wso_wGoods, won_wGoods, wot_wGoods, wcg_wGoods, wm_wChest, wk_wChest, ww_wChest, wcm_wChest, wch_wChest, whu_wChest, wn_wChest, wso_wChest, won_wChest, wot_wChest, wcg_wChest, wm_wRate, wk_wRate, ww_wRate, wcm_wRate, wch_wRate, whu_wRate, wn_wRate, wso_wRate, won_wRate, wot_wRate, wcg_wRate, wm_wCl, wk_wCl, ww_wCl, wcm_wCl, wch_wCl, whu_wCl, wn_wCl, wso_wCl, won_wCl, wot_wCl, wcg_wCl, wm_wChg, wk_wChg, ww_wChg, wcm_wChg, wch_wChg, whu_wChg, wn_wChg, wso_wChg, won_wChg, wot_wChg, wcg_wChg, fA_eq, fU, f2, insF, delF] at hk; have := e5 k; have := e5 (k - 1); have := hlo (37 + 3 * k); have := hmi k; ((try simp only [wm_wGoods, wk_wGoods, ww_wGoods, wcm_wGoods, wch_wGoods, whu_wGoods, wn_wGoods, wso_wGoods, won_wGoods, wot_wGoods, wcg_wGoods, wm_wChest, wk_wChest, ww_wChest, wcm_wChest, wch_wChest, whu_wChest, wn_wChest, wso_wChest, won_wChest, wot_wChest, wcg_wChest, wm_wRate, wk_wRate, ww_wRate, wcm_wRate, wch_wRate, whu_wRate, wn_wRate, wso_wRate, won_wRate, wot_wRate, wcg_wRate, wm_wCl, wk_wCl, ww_wCl, wcm_wCl, wch_wCl, whu_wCl, wn_wCl, wso_wCl, won_wCl, wot_wCl, wcg_wCl, wm_wChg, wk_wChg, ww_wChg, wcm_wChg, wch_wChg, whu_wChg, wn_wChg, wso_wChg, won_wChg, wot_wChg, wcg_wChg, fA_eq, fU, f2, insF, delF]); (repeat' split) <;> (try first | omega | exact absurd trivial (by assumption)))
    · simp only [wm_wGoods, wk_wGoods, ww_wGoods, wcm_wGoods, wch_wGoods, whu_wGoods, wn_wGoods, wso_wGoods, won_wGoods, wot_wGoods, wcg_wGoods, wm_wChest, wk_wChest, ww_wChest, wcm_wChest, wch_wChest, whu_wChest, wn_wChest, wso_wChest, won_wChest, wot_wChest, wcg_wChest, wm_wRate, wk_wRate, ww_wRate, wcm_wRate, wch_wRate, whu_wRate, wn_wRate, wso_wRate, won_wRate, wot_wRate, wcg_wRate, wm_wCl, wk_wCl, ww_wCl, wcm_wCl, wch_wCl, whu_wCl, wn_wCl, wso_wCl, won_wCl, wot_wCl, wcg_wCl, wm_wChg, wk_wChg, ww_wChg, wcm_wChg, wch_wChg, whu_wChg, wn_wChg, wso_wChg, won_wChg, wot_wChg, wcg_wChg, fA_eq, fU, f2, insF, delF] at hk; have := e5 k; have := e5 (k - 1); have := hlo (38 + 3 * k); have := hmi k; ((try simp only [wm_wGoods, wk_wGoods, ww_wGoods, wcm_wGoods, wch_wGoods, whu_wGoods, wn_wGoods, wso_wGoods, won_wGoods, wot_wGoods, wcg_wGoods, wm_wChest, wk_wChest, ww_wChest, wcm_wChest, wch_wChest, whu_wChest, wn_wChest, wso_wChest, won_wChest, wot_wChest, wcg_wChest, wm_wRate, wk_wRate, ww_wRate, wcm_wRate, wch_wRate, whu_wRate, wn_wRate, wso_wRate, won_wRate, wot_wRate, wcg_wRate, wm_wCl, wk_wCl, ww_wCl, wcm_wCl, wch_wCl, whu_wCl, wn_wCl, wso_wCl, won_wCl, wot_wCl, wcg_wCl, wm_wChg, wk_wChg, ww_wChg, wcm_wChg, wch_wChg, whu_wChg, wn_wChg, wso_wChg, won_wChg, wot_wChg, wcg_wChg, fA_eq, fU, f2, insF, delF]); (repeat' split) <;> (try first | omega | exact absurd trivial (by assumption)))
    · simp only [wm_wGoods, wk_wGoods, ww_wGoods, wcm_wGoods, wch_wGoods, whu_wGoods, wn_wGoods, wso_wGoods, won_wGoods, wot_wGoods, wcg_wGoods, wm_wChest, wk_wChest, ww_wChest, wcm_wChest, wch_wChest, whu_wChest, wn_wChest, wso_wChest, won_wChest, wot_wChest, wcg_wChest, wm_wRate, wk_wRate, ww_wRate, wcm_wRate, wch_wRate, whu_wRate, wn_wRate, wso_wRate, won_wRate, wot_wRate, wcg_wRate, wm_wCl, wk_wCl, ww_wCl, wcm_wCl, wch_wCl, whu_wCl, wn_wCl, wso_wCl, won_wCl, wot_wCl, wcg_wCl, wm_wChg, wk_wChg, ww_wChg, wcm_wChg, wch_wChg, whu_wChg, wn_wChg, wso_wChg, won_wChg, wot_wChg, wcg_wChg, fA_eq, fU, f2, insF, delF] at hk; have := e5 k; have := e5 (k - 1); have := hlo (39 + 3 * k); have := hmi k; ((try simp only [wm_wGoods, wk_wGoods, ww_wGoods, wcm_wGoods, wch_wGoods, whu_wGoods, wn_wGoods, wso_wGoods, won_wGoods, wot_wGoods, wcg_wGoods, wm_wChest, wk_wChest, ww_wChest, wcm_wChest, wch_wChest, whu_wChest, wn_wChest, wso_wChest, won_wChest, wot_wChest, wcg_wChest, wm_wRate, wk_wRate, ww_wRate, wcm_wRate, wch_wRate, whu_wRate, wn_wRate, wso_wRate, won_wRate, wot_wRate, wcg_wRate, wm_wCl, wk_wCl, ww_wCl, wcm_wCl, wch_wCl, whu_wCl, wn_wCl, wso_wCl, won_wCl, wot_wCl, wcg_wCl, wm_wChg, wk_wChg, ww_wChg, wcm_wChg, wch_wChg, whu_wChg, wn_wChg, wso_wChg, won_wChg, wot_wChg, wcg_wChg, fA_eq, fU, f2, insF, delF]); (repeat' split) <;> (try first | omega | exact absurd trivial (by assumption)))
  · obtain ⟨q1, q2, q3, q4, q5, q6⟩ := hP.1.1
    unfold wIns
    refine ⟨q1, ?_, ?_, q4, q5, fun k hk => ?_⟩
    · ((try simp only [wm_wGoods, wk_wGoods, ww_wGoods, wcm_wGoods, wch_wGoods, whu_wGoods, wn_wGoods, wso_wGoods, won_wGoods, wot_wGoods, wcg_wGoods, wm_wChest, wk_wChest, ww_wChest, wcm_wChest, wch_wChest, whu_wChest, wn_wChest, wso_wChest, won_wChest, wot_wChest, wcg_wChest, wm_wRate, wk_wRate, ww_wRate, wcm_wRate, wch_wRate, whu_wRate, wn_wRate, wso_wRate, won_wRate, wot_wRate, wcg_wRate, wm_wCl, wk_wCl, ww_wCl, wcm_wCl, wch_wCl, whu_wCl, wn_wCl, wso_wCl, won_wCl, wot_wCl, wcg_wCl, wm_wChg, wk_wChg, ww_wChg, wcm_wChg, wch_wChg, whu_wChg, wn_wChg, wso_wChg, won_wChg, wot_wChg, wcg_wChg, fA_eq, fU, f2, insF, delF]); (repeat' split) <;> (try first | omega | exact absurd trivial (by assumption)))
    · ((try simp only [wm_wGoods, wk_wGoods, ww_wGoods, wcm_wGoods, wch_wGoods, whu_wGoods, wn_wGoods, wso_wGoods, won_wGoods, wot_wGoods, wcg_wGoods, wm_wChest, wk_wChest, ww_wChest, wcm_wChest, wch_wChest, whu_wChest, wn_wChest, wso_wChest, won_wChest, wot_wChest, wcg_wChest, wm_wRate, wk_wRate, ww_wRate, wcm_wRate, wch_wRate, whu_wRate, wn_wRate, wso_wRate, won_wRate, wot_wRate, wcg_wRate, wm_wCl, wk_wCl, ww_wCl, wcm_wCl, wch_wCl, whu_wCl, wn_wCl, wso_wCl, won_wCl, wot_wCl, wcg_wCl, wm_wChg, wk_wChg, ww_wChg, wcm_wChg, wch_wChg, whu_wChg, wn_wChg, wso_wChg, won_wChg, wot_wChg, wcg_wChg, fA_eq, fU, f2, insF, delF]); (repeat' split) <;> (try first | omega | exact absurd trivial (by assumption)))
    · simp only [wm_wGoods, wk_wGoods, ww_wGoods, wcm_wGoods, wch_wGoods, whu_wGoods, wn_wGoods, wso_wGoods, won_wGoods, wot_wGoods, wcg_wGoods, wm_wChest, wk_wChest, ww_wChest, wcm_wChest, wch_wChest, whu_wChest, wn_wChest, wso_wChest, won_wChest, wot_wChest, wcg_wChest, wm_wRate, wk_wRate, ww_wRate, wcm_wRate, wch_wRate, whu_wRate, wn_wRate, wso_wRate, won_wRate, wot_wRate, wcg_wRate, wm_wCl, wk_wCl, ww_wCl, wcm_wCl, wch_wCl, whu_wCl, wn_wCl, wso_wCl, won_wCl, wot_wCl, wcg_wCl, wm_wChg, wk_wChg, ww_wChg, wcm_wChg, wch_wChg, whu_wChg, wn_wChg, wso_wChg, won_wChg, wot_wChg, wcg_wChg, fA_eq, fU, f2, insF, delF] at hk
      simp only [wm_wGoods, wk_wGoods, ww_wGoods, wcm_wGoods, wch_wGoods, whu_wGoods, wn_wGoods, wso_wGoods, won_wGoods, wot_wGoods, wcg_wGoods, wm_wChest, wk_wChest, ww_wChest, wcm_wChest, wch_wChest, whu_wChest, wn_wChest, wso_wChest, won_wChest, wot_wChest, wcg_wChest, wm_wRate, wk_wRate, ww_wRate, wcm_wRate, wch_wRate, whu_wRate, wn_wRate, wso_wRate, won_wRate, wot_wRate, wcg_wRate, wm_wCl, wk_wCl, ww_wCl, wcm_wCl, wch_wCl, whu_wCl, wn_wCl, wso_wCl, won_wCl, wot_wCl, wcg_wCl, wm_wChg, wk_wChg, ww_wChg, wcm_wChg, wch_wChg, whu_wChg, wn_wChg, wso_wChg, won_wChg, wot_wChg, wcg_wChg, fA_eq, fU, f2, insF, delF]
      have h1 := q6 k; have h2 := q6 (k - 1)
      split
      · exact h1 (by omega)
      · split
        · exact c3
        · exact h2 (by omega)
theorem m_add (h : MX B M m X th) (hb : mGb G ≤ m) (hc : wcg (xW X) < 1000) (s o t' : Int32) (hq : ∀ M, MX B M m (spAdd X s o t').2.2 (spAdd X s o t').1 → Q (.inl (some (.int (spAdd X s o t').2.1))) M t u) : mMet G (d + 4) zX8_add [.ref m, .int s, .int o, .int t'] M t u Q := by
  refine m_intro (by decide +kernel) ⟨Nat.le_of_ble_eq_true rfl, Nat.le_of_ble_eq_true rfl⟩ ?_
  show mW G _ _ 0 [some (.ref m), some (.int s), some (.int o), some (.int t')] [] _ _ _ _
  obtain ⟨F0, A0, h0⟩ := h.at
  first | refine r_aload_n dX8_add_0 rfl ?_ | refine r_aload_nq dX8_add_0 rfl ?_ | refine r_aload_nN dX8_add_0 rfl ?_
  refine r_callV s_X8_86_v dX8_add_1 (by first | exact MAt.o (by assumption) | exact MAt.a1 (by assumption) | exact MAt.a2 (by assumption) | exact MAt.a3 (by assumption) | exact MAt.a4 (by assumption) | exact MAt.a5 (by assumption) | exact MAt.a6 (by assumption) | exact MAt.a7 (by assumption) | exact MAt.a8 (by assumption) | exact MAt.a9 (by assumption) | exact MAt.a10 (by assumption) | exact MAt.a11 (by assumption) | exact MAt.a12 (by assumption) | exact MAt.a13 (by assumption) | exact MAt.a14 (by assumption) | exact MAt.a15 (by assumption) | exact MAt.a16 (by assumption)) (by rfl) rfl (Nat.le_of_ble_eq_true rfl) (m_keepX h hb (fun M F A hM hP hR hR2 h6 => ?_))
  refine mK_v ?_
  have e1 : A 1 1 = wn (xW X) := hR.2.1
  unfold spAdd at hq
  first | refine r_aload_n dX8_add_4 rfl ?_ | refine r_aload_nq dX8_add_4 rfl ?_ | refine r_aload_nN dX8_add_4 rfl ?_
  first | refine r_aload_n dX8_add_5 rfl ?_ | refine r_aload_nq dX8_add_5 rfl ?_ | refine r_aload_nN dX8_add_5 rfl ?_
  first | refine r_aload_n dX8_add_6 rfl ?_ | refine r_aload_nq dX8_add_6 rfl ?_ | refine r_aload_nN dX8_add_6 rfl ?_
  refine r_getf f_X8_9_7 (by first | exact MAt.o (by assumption) | exact MAt.a1 (by assumption) | exact MAt.a2 (by assumption) | exact MAt.a3 (by assumption) | exact MAt.a4 (by assumption) | exact MAt.a5 (by assumption) | exact MAt.a6 (by assumption) | exact MAt.a7 (by assumption) | exact MAt.a8 (by assumption) | exact MAt.a9 (by assumption) | exact MAt.a10 (by assumption) | exact MAt.a11 (by assumption) | exact MAt.a12 (by assumption) | exact MAt.a13 (by assumption) | exact MAt.a14 (by assumption) | exact MAt.a15 (by assumption) | exact MAt.a16 (by assumption)) (by rfl) dX8_add_7 ?_
  refine r_iconst (v := nI 1) dX8_add_10 (by decide) ?_
  refine r_iald_n (by first | exact MAt.o (by assumption) | exact MAt.a1 (by assumption) | exact MAt.a2 (by assumption) | exact MAt.a3 (by assumption) | exact MAt.a4 (by assumption) | exact MAt.a5 (by assumption) | exact MAt.a6 (by assumption) | exact MAt.a7 (by assumption) | exact MAt.a8 (by assumption) | exact MAt.a9 (by assumption) | exact MAt.a10 (by assumption) | exact MAt.a11 (by assumption) | exact MAt.a12 (by assumption) | exact MAt.a13 (by assumption) | exact MAt.a14 (by assumption) | exact MAt.a15 (by assumption) | exact MAt.a16 (by assumption)) (by rfl) (by omega) (by omega) dX8_add_11 ?_
  refine r_iload_n dX8_add_12 rfl ?_
  refine r_iload_n dX8_add_13 rfl ?_
  refine r_iload_n dX8_add_14 rfl ?_
  refine r_iconst (v := nI 1) dX8_add_15 (by decide) ?_
  rw [e1]
  refine r_callV s_X8_153_v dX8_add_16 (by first | exact MAt.o (by assumption) | exact MAt.a1 (by assumption) | exact MAt.a2 (by assumption) | exact MAt.a3 (by assumption) | exact MAt.a4 (by assumption) | exact MAt.a5 (by assumption) | exact MAt.a6 (by assumption) | exact MAt.a7 (by assumption) | exact MAt.a8 (by assumption) | exact MAt.a9 (by assumption) | exact MAt.a10 (by assumption) | exact MAt.a11 (by assumption) | exact MAt.a12 (by assumption) | exact MAt.a13 (by assumption) | exact MAt.a14 (by assumption) | exact MAt.a15 (by assumption) | exact MAt.a16 (by assumption)) (by rfl) rfl (Nat.le_of_ble_eq_true rfl) (m_doInsert hM hP hR hb hc (wn (xW X)) 1 s o t' (Nat.le_refl _) (by decide) (fun M F' k X' hs hk0 hk1 hM hP hF hW => ?_) (fun M A' W' hs hM hP hR ha hW => ?_))
  refine mK_r ?_
  · rw [hs] at hq
    refine r_callV s_X8_93_v dX8_add_19 (by first | exact MAt.o (by assumption) | exact MAt.a1 (by assumption) | exact MAt.a2 (by assumption) | exact MAt.a3 (by assumption) | exact MAt.a4 (by assumption) | exact MAt.a5 (by assumption) | exact MAt.a6 (by assumption) | exact MAt.a7 (by assumption) | exact MAt.a8 (by assumption) | exact MAt.a9 (by assumption) | exact MAt.a10 (by assumption) | exact MAt.a11 (by assumption) | exact MAt.a12 (by assumption) | exact MAt.a13 (by assumption) | exact MAt.a14 (by assumption) | exact MAt.a15 (by assumption) | exact MAt.a16 (by assumption)) (by rfl) rfl (Nat.le_of_ble_eq_true rfl) (m_endsF hM hP (by rw [hW]; exact hR2) hb _ k hF hk0 hk1 (fun M hX => ?_))
    refine mK_r ?_
    refine r_iret rfl (by first | rfl | exact bI_nar _) dX8_add_22 ?_
    exact hq _ hX
  · rw [hs] at hq
    refine mK_r ?_
    refine r_callV s_X8_93_v dX8_add_19 (by first | exact MAt.o (by assumption) | exact MAt.a1 (by assumption) | exact MAt.a2 (by assumption) | exact MAt.a3 (by assumption) | exact MAt.a4 (by assumption) | exact MAt.a5 (by assumption) | exact MAt.a6 (by assumption) | exact MAt.a7 (by assumption) | exact MAt.a8 (by assumption) | exact MAt.a9 (by assumption) | exact MAt.a10 (by assumption) | exact MAt.a11 (by assumption) | exact MAt.a12 (by assumption) | exact MAt.a13 (by assumption) | exact MAt.a14 (by assumption) | exact MAt.a15 (by assumption) | exact MAt.a16 (by assumption)) (by rfl) rfl (Nat.le_of_ble_eq_true rfl) (m_endsD hM hP (by rw [ha]; exact hR2) hR hW hb _ h6 (fun M hX => ?_))
    refine mK_r ?_
    refine r_iret rfl (by first | rfl | exact bI_nar _) dX8_add_22 ?_
    exact hq _ hX
theorem m_insert (h : MX B M m X th) (hb : mGb G ≤ m) (hc : wcg (xW X) < 1000) (p s o t' : Int32) (hq : ∀ M, MX B M m (spInsert X p s o t').2.2 (spInsert X p s o t').1 → Q (.inl (some (.int (spInsert X p s o t').2.1))) M t u) : mMet G (d + 4) zX8_insert [.ref m, .int p, .int s, .int o, .int t'] M t u Q := by
  refine m_intro (by decide +kernel) ⟨Nat.le_of_ble_eq_true rfl, Nat.le_of_ble_eq_true rfl⟩ ?_
  show mW G _ _ 0 [some (.ref m), some (.int p), some (.int s), some (.int o), some (.int t')] [] _ _ _ _
  obtain ⟨F0, A0, h0⟩ := h.at
  first | refine r_aload_n dX8_insert_0 rfl ?_ | refine r_aload_nq dX8_insert_0 rfl ?_ | refine r_aload_nN dX8_insert_0 rfl ?_
  refine r_callV s_X8_86_v dX8_insert_1 (by first | exact MAt.o (by assumption) | exact MAt.a1 (by assumption) | exact MAt.a2 (by assumption) | exact MAt.a3 (by assumption) | exact MAt.a4 (by assumption) | exact MAt.a5 (by assumption) | exact MAt.a6 (by assumption) | exact MAt.a7 (by assumption) | exact MAt.a8 (by assumption) | exact MAt.a9 (by assumption) | exact MAt.a10 (by assumption) | exact MAt.a11 (by assumption) | exact MAt.a12 (by assumption) | exact MAt.a13 (by assumption) | exact MAt.a14 (by assumption) | exact MAt.a15 (by assumption) | exact MAt.a16 (by assumption)) (by rfl) rfl (Nat.le_of_ble_eq_true rfl) (m_keepX h hb (fun M F A hM hP hR hR2 h6 => ?_))
  refine mK_v ?_
  have e1 : A 1 1 = wn (xW X) := hR.2.1
  have hn : wn (xW X) ≤ 24 := hP.1.1.2.1
  unfold spInsert at hq
  refine r_iload_n dX8_insert_4 rfl ?_
  refine r_iconst (v := nI 0) dX8_insert_5 (by decide) ?_
  first | refine r_aload_n dX8_insert_6 rfl ?_ | refine r_aload_nq dX8_insert_6 rfl ?_ | refine r_aload_nN dX8_insert_6 rfl ?_
  refine r_getf f_X8_9_7 (by first | exact MAt.o (by assumption) | exact MAt.a1 (by assumption) | exact MAt.a2 (by assumption) | exact MAt.a3 (by assumption) | exact MAt.a4 (by assumption) | exact MAt.a5 (by assumption) | exact MAt.a6 (by assumption) | exact MAt.a7 (by assumption) | exact MAt.a8 (by assumption) | exact MAt.a9 (by assumption) | exact MAt.a10 (by assumption) | exact MAt.a11 (by assumption) | exact MAt.a12 (by assumption) | exact MAt.a13 (by assumption) | exact MAt.a14 (by assumption) | exact MAt.a15 (by assumption) | exact MAt.a16 (by assumption)) (by rfl) dX8_insert_7 ?_
  refine r_iconst (v := nI 1) dX8_insert_10 (by decide) ?_
  refine r_iald_n (by first | exact MAt.o (by assumption) | exact MAt.a1 (by assumption) | exact MAt.a2 (by assumption) | exact MAt.a3 (by assumption) | exact MAt.a4 (by assumption) | exact MAt.a5 (by assumption) | exact MAt.a6 (by assumption) | exact MAt.a7 (by assumption) | exact MAt.a8 (by assumption) | exact MAt.a9 (by assumption) | exact MAt.a10 (by assumption) | exact MAt.a11 (by assumption) | exact MAt.a12 (by assumption) | exact MAt.a13 (by assumption) | exact MAt.a14 (by assumption) | exact MAt.a15 (by assumption) | exact MAt.a16 (by assumption)) (by rfl) (by omega) (by omega) dX8_insert_11 ?_
  rw [e1]
  refine r_callS s_X8_82_s dX8_insert_12 (by rfl) rfl (Nat.le_of_ble_eq_true rfl) (m_in _ _ _ (nm_e ?_))
  refine mK_r ?_
  first | refine r_if_ne_b (tgt := 28) dX8_insert_15 (by decide) (fun h15 => ?_) (fun h15 => ?_) | refine r_if_ne_n (tgt := 28) dX8_insert_15 (by decide) (by omega) (fun h15 => ?_) (fun h15 => ?_) | refine r_if_ne (tgt := 28) dX8_insert_15 (by decide) (fun h15 => ?_) (fun h15 => ?_)
  rotate_left
  · have h15 : inR p 0 (wn (xW X)) = false := h15
    rw [if_pos (by rw [h15]; decide)] at hq
    first | refine r_aload_n dX8_insert_18 rfl ?_ | refine r_aload_nq dX8_insert_18 rfl ?_ | refine r_aload_nN dX8_insert_18 rfl ?_
    first | refine r_aload_n dX8_insert_19 rfl ?_ | refine r_aload_nq dX8_insert_19 rfl ?_ | refine r_aload_nN dX8_insert_19 rfl ?_
    refine r_iconst (v := nI 1) dX8_insert_20 (by decide) ?_
    refine r_callV s_X8_89_v dX8_insert_21 (by first | exact MAt.o (by assumption) | exact MAt.a1 (by assumption) | exact MAt.a2 (by assumption) | exact MAt.a3 (by assumption) | exact MAt.a4 (by assumption) | exact MAt.a5 (by assumption) | exact MAt.a6 (by assumption) | exact MAt.a7 (by assumption) | exact MAt.a8 (by assumption) | exact MAt.a9 (by assumption) | exact MAt.a10 (by assumption) | exact MAt.a11 (by assumption) | exact MAt.a12 (by assumption) | exact MAt.a13 (by assumption) | exact MAt.a14 (by assumption) | exact MAt.a15 (by assumption) | exact MAt.a16 (by assumption)) (by rfl) rfl (Nat.le_of_ble_eq_true rfl) (m_fails hM hb 1 (fun M hM => ?_))
    refine mK_r ?_
    refine r_callV s_X8_93_v dX8_insert_24 (by first | exact MAt.o (by assumption) | exact MAt.a1 (by assumption) | exact MAt.a2 (by assumption) | exact MAt.a3 (by assumption) | exact MAt.a4 (by assumption) | exact MAt.a5 (by assumption) | exact MAt.a6 (by assumption) | exact MAt.a7 (by assumption) | exact MAt.a8 (by assumption) | exact MAt.a9 (by assumption) | exact MAt.a10 (by assumption) | exact MAt.a11 (by assumption) | exact MAt.a12 (by assumption) | exact MAt.a13 (by assumption) | exact MAt.a14 (by assumption) | exact MAt.a15 (by assumption) | exact MAt.a16 (by assumption)) (by rfl) rfl (Nat.le_of_ble_eq_true rfl) (m_endsF hM (hP.f6 1) hR2 hb _ 1 rfl (by decide) (by decide) (fun M hX => ?_))
    refine mK_r ?_
    refine r_iret rfl (by first | rfl | exact bI_nar _) dX8_insert_27 ?_
    exact hq _ hX
  have h15 : inR p 0 (wn (xW X)) = true := h15
  obtain ⟨i, _, hi, rfl⟩ := (inR_iff (by omega) (by omega)).mp h15
  rw [if_neg (by rw [h15]; decide), nI_cl (by omega)] at hq
  first | refine r_aload_n dX8_insert_28 rfl ?_ | refine r_aload_nq dX8_insert_28 rfl ?_ | refine r_aload_nN dX8_insert_28 rfl ?_
  first | refine r_aload_n dX8_insert_29 rfl ?_ | refine r_aload_nq dX8_insert_29 rfl ?_ | refine r_aload_nN dX8_insert_29 rfl ?_
  refine r_iload_n dX8_insert_30 rfl ?_
  refine r_iload_n dX8_insert_31 rfl ?_
  refine r_iload_n dX8_insert_32 rfl ?_
  refine r_iload dX8_insert_33 rfl ?_
  refine r_iconst (v := nI 2) dX8_insert_35 (by decide) ?_
  refine r_callV s_X8_153_v dX8_insert_36 (by first | exact MAt.o (by assumption) | exact MAt.a1 (by assumption) | exact MAt.a2 (by assumption) | exact MAt.a3 (by assumption) | exact MAt.a4 (by assumption) | exact MAt.a5 (by assumption) | exact MAt.a6 (by assumption) | exact MAt.a7 (by assumption) | exact MAt.a8 (by assumption) | exact MAt.a9 (by assumption) | exact MAt.a10 (by assumption) | exact MAt.a11 (by assumption) | exact MAt.a12 (by assumption) | exact MAt.a13 (by assumption) | exact MAt.a14 (by assumption) | exact MAt.a15 (by assumption) | exact MAt.a16 (by assumption)) (by rfl) rfl (Nat.le_of_ble_eq_true rfl) (m_doInsert hM hP hR hb hc i 2 s o t' hi (by decide) (fun M F' k X' hs hk0 hk1 hM hP hF hW => ?_) (fun M A' W' hs hM hP hR ha hW => ?_))
  refine mK_r ?_
  · rw [hs] at hq
    refine r_callV s_X8_93_v dX8_insert_39 (by first | exact MAt.o (by assumption) | exact MAt.a1 (by assumption) | exact MAt.a2 (by assumption) | exact MAt.a3 (by assumption) | exact MAt.a4 (by assumption) | exact MAt.a5 (by assumption) | exact MAt.a6 (by assumption) | exact MAt.a7 (by assumption) | exact MAt.a8 (by assumption) | exact MAt.a9 (by assumption) | exact MAt.a10 (by assumption) | exact MAt.a11 (by assumption) | exact MAt.a12 (by assumption) | exact MAt.a13 (by assumption) | exact MAt.a14 (by assumption) | exact MAt.a15 (by assumption) | exact MAt.a16 (by assumption)) (by rfl) rfl (Nat.le_of_ble_eq_true rfl) (m_endsF hM hP (by rw [hW]; exact hR2) hb _ k hF hk0 hk1 (fun M hX => ?_))
    refine mK_r ?_
    refine r_iret rfl (by first | rfl | exact bI_nar _) dX8_insert_42 ?_
    exact hq _ hX
  · rw [hs] at hq
    refine mK_r ?_
    refine r_callV s_X8_93_v dX8_insert_39 (by first | exact MAt.o (by assumption) | exact MAt.a1 (by assumption) | exact MAt.a2 (by assumption) | exact MAt.a3 (by assumption) | exact MAt.a4 (by assumption) | exact MAt.a5 (by assumption) | exact MAt.a6 (by assumption) | exact MAt.a7 (by assumption) | exact MAt.a8 (by assumption) | exact MAt.a9 (by assumption) | exact MAt.a10 (by assumption) | exact MAt.a11 (by assumption) | exact MAt.a12 (by assumption) | exact MAt.a13 (by assumption) | exact MAt.a14 (by assumption) | exact MAt.a15 (by assumption) | exact MAt.a16 (by assumption)) (by rfl) rfl (Nat.le_of_ble_eq_true rfl) (m_endsD hM hP (by rw [ha]; exact hR2) hR hW hb _ h6 (fun M hX => ?_))
    refine mK_r ?_
    refine r_iret rfl (by first | rfl | exact bI_nar _) dX8_insert_42 ?_
    exact hq _ hX
end MOD6
