/-! ===== the model: clauses asked for, and how many paths ===== -/
/-- the tree of a nested row of n clauses -/
noncomputable def pT (so : Nat → Nat) (n : Nat) : Fo := Classical.epsilon (fun f => fl f = n ∧ wb so 0 f 0 0)
theorem pT_spec {so : Nat → Nat} {n : Nat} (hso : ∀ k, k < n → so k < 10) (h : nestB so n = true) : fl (pT so n) = n ∧ wb so 0 (pT so n) 0 0 :=
  Classical.epsilon_spec (nest_tree hso h)
/-- how many paths a row of clauses has -/
noncomputable def pN (so : Nat → Nat) (n : Nat) : Nat := if nestB so n = true then fc (pT so n) else 0
theorem pN_le {so : Nat → Nat} {n : Nat} (hso : ∀ k, k < n → so k < 10) (hn : n ≤ 24) : pN so n ≤ 256 := by
  unfold pN
  split
  · rename_i h
    exact fc_256 (by rw [(pT_spec hso h).1]; exact hn)
  · omega
def spClauseOf (X : XT) (p w : Int32) : Nat × Int32 :=
  let W := xW X; let i := p.toNatClampNeg
  if ¬ inB p (wn W) = true then (1, 0) else if ¬ inR w 0 3 = true then (2, 0)
  else (0, match w.toNatClampNeg with | 0 => nI (wso W i) | 1 => nI (won W i) | 2 => nI (wot W i) | _ => if nestB (wso W) (wn W) = true then nI (arD (wso W) i) else -1)
noncomputable def xN (X : XT) : Nat := pN (wso (xW X)) (wn (xW X))
theorem xOk_so {X : XT} (h : xOk X) : ∀ k, k < wn (xW X) → wso (xW X) k < 10 := fun k hk => (h.1.2.2.2.2.2 k hk).1
theorem xN_le {X : XT} (h : xOk X) : xN X ≤ 256 := pN_le (xOk_so h) h.1.2.1
section MOD9
variable {G : mG} {d : Nat} {B M : mM} {m t u th : Nat} {X : XT} {F : Nat → Nat} {D : Int32} {A : Nat → Nat → Nat} {Q : mQt}
/-- what a call may change that changes none of what is kept -/
def MKp (F F' : Nat → Nat) (A A' : Nat → Nat → Nat) : Prop := F' 3 = F 3 ∧ F' 5 = F 5 ∧ F' 7 = F 7 ∧ F' 26 = F 26 ∧ F' 28 = F 28 ∧ F' 29 = F 29 ∧ A' 1 = A 1 ∧ A' 3 = A 3 ∧ A' 4 = A 4 ∧ A' 14 = A 14 ∧ A' 15 = A 15
theorem MKp.refl : MKp F F A A := ⟨rfl, rfl, rfl, rfl, rfl, rfl, rfl, rfl, rfl, rfl, rfl⟩
theorem MKp.of {F' : Nat → Nat} {A' : Nat → Nat → Nat} (h1 : ∀ k, k ≠ 14 → F' k = F k) (h2 : ∀ i, (i < 5 ∨ 9 < i) → A' i = A i) : MKp F F' A A' :=
  ⟨h1 3 (by decide), h1 5 (by decide), h1 7 (by decide), h1 26 (by decide), h1 28 (by decide), h1 29 (by decide), h2 1 (by decide), h2 3 (by decide), h2 4 (by decide), h2 14 (by decide), h2 15 (by decide)⟩
theorem MKp.tr {F' F'' : Nat → Nat} {A' A'' : Nat → Nat → Nat} (h : MKp F F' A A') (g : MKp F' F'' A' A'') : MKp F F'' A A'' := by
  obtain ⟨a1, a2, a3, a4, a5, a6, a7, a8, a9, a10, a11⟩ := h
  obtain ⟨b1, b2, b3, b4, b5, b6, b7, b8, b9, b10, b11⟩ := g
  exact ⟨b1.trans a1, b2.trans a2, b3.trans a3, b4.trans a4, b5.trans a5, b6.trans a6, b7.trans a7, b8.trans a8, b9.trans a9, b10.trans a10, b11.trans a11⟩
theorem MKp.t6 {k : Nat} : MKp F (fU F 6 k) A A := ⟨rfl, rfl, rfl, rfl, rfl, rfl, rfl, rfl, rfl, rfl, rfl⟩
theorem MX.kp {F' : Nat → Nat} {A' : Nat → Nat → Nat} (hM : MAt B M m F' (xD X) A') (hP : MP F A X) (hR : mR (xW X) (A 1)) (hk : MKp F F' A A') : MX B M m X (F' 6) := by
  obtain ⟨a1, a2, a3, a4, a5, a6, a7, a8, a9, a10, a11⟩ := hk
  exact MX_iff.mpr ⟨F', A', hM, hP.cg a1 a2 a3 a4 a5 a6 a8 a9 a10 a11, by rw [a7]; exact hR, rfl⟩
theorem m_clauseOf (h : MX B M m X th) (hb : mGb G ≤ m) (p w : Int32) (hq : ∀ M, MX B M m X (spClauseOf X p w).1 → Q (.inl (some (.int (spClauseOf X p w).2))) M t u) : mMet G (d + 2) zX8_clauseOf [.ref m, .int p, .int w] M t u Q := by
  refine m_intro (by decide +kernel) ⟨Nat.le_of_ble_eq_true rfl, Nat.le_of_ble_eq_true rfl⟩ ?_
  show mW G _ _ 0 [some (.ref m), some (.int p), some (.int w)] [] _ _ _ _
  obtain ⟨F, A, hM, hP, hR, h6⟩ := h.un
  obtain ⟨⟨e0, hm⟩, ⟨e1, hn⟩, ⟨e2, hcg⟩, e3, e4, e5⟩ := mR_up hP.1.1 hR
  unfold spClauseOf at hq
  first | refine r_aload_n dX8_clauseOf_0 rfl ?_ | refine r_aload_nq dX8_clauseOf_0 rfl ?_ | refine r_aload_nN dX8_clauseOf_0 rfl ?_
  first | refine r_aload_n dX8_clauseOf_1 rfl ?_ | refine r_aload_nq dX8_clauseOf_1 rfl ?_ | refine r_aload_nN dX8_clauseOf_1 rfl ?_
  refine r_iload_n dX8_clauseOf_2 rfl ?_
  refine r_callV s_X8_157_v dX8_clauseOf_3 (by first | exact MAt.o (by assumption) | exact MAt.a1 (by assumption) | exact MAt.a2 (by assumption) | exact MAt.a3 (by assumption) | exact MAt.a4 (by assumption) | exact MAt.a5 (by assumption) | exact MAt.a6 (by assumption) | exact MAt.a7 (by assumption) | exact MAt.a8 (by assumption) | exact MAt.a9 (by assumption) | exact MAt.a10 (by assumption) | exact MAt.a11 (by assumption) | exact MAt.a12 (by assumption) | exact MAt.a13 (by assumption) | exact MAt.a14 (by assumption) | exact MAt.a15 (by assumption) | exact MAt.a16 (by assumption)) (by rfl) rfl (Nat.le_of_ble_eq_true rfl) (m_isClause hM _ (nm_e ?_))
  refine mK_r ?_
  first | refine r_if_ne_b (tgt := 13) dX8_clauseOf_6 (by decide) (fun h6 => ?_) (fun h6 => ?_) | refine r_if_ne_n (tgt := 13) dX8_clauseOf_6 (by decide) (by omega) (fun h6 => ?_) (fun h6 => ?_) | refine r_if_ne (tgt := 13) dX8_clauseOf_6 (by decide) (fun h6 => ?_) (fun h6 => ?_)
  rotate_left
  · rw [if_pos (by rw [← e1, h6]; decide)] at hq
    refine r_iconst (v := nI 1) dX8_clauseOf_9 (by decide) ?_
    refine r_goto (tgt := 27) dX8_clauseOf_10 (by decide) ?_
    refine r_putf f_X8_64_7 ft_7_6 (by first | exact MAt.o (by assumption) | exact MAt.a1 (by assumption) | exact MAt.a2 (by assumption) | exact MAt.a3 (by assumption) | exact MAt.a4 (by assumption) | exact MAt.a5 (by assumption) | exact MAt.a6 (by assumption) | exact MAt.a7 (by assumption) | exact MAt.a8 (by assumption) | exact MAt.a9 (by assumption) | exact MAt.a10 (by assumption) | exact MAt.a11 (by assumption) | exact MAt.a12 (by assumption) | exact MAt.a13 (by assumption) | exact MAt.a14 (by assumption) | exact MAt.a15 (by assumption) | exact MAt.a16 (by assumption)) (by omega) (by first | rfl | exact bI_nar _) (by first | rfl | exact bI_fit _) dX8_clauseOf_27 ?_
    refine MAt.p6 (by assumption) (fun M hM => ?_)
    first | refine r_aload_n dX8_clauseOf_30 rfl ?_ | refine r_aload_nq dX8_clauseOf_30 rfl ?_ | refine r_aload_nN dX8_clauseOf_30 rfl ?_
    refine r_getf f_X8_64_7 (by first | exact MAt.o (by assumption) | exact MAt.a1 (by assumption) | exact MAt.a2 (by assumption) | exact MAt.a3 (by assumption) | exact MAt.a4 (by assumption) | exact MAt.a5 (by assumption) | exact MAt.a6 (by assumption) | exact MAt.a7 (by assumption) | exact MAt.a8 (by assumption) | exact MAt.a9 (by assumption) | exact MAt.a10 (by assumption) | exact MAt.a11 (by assumption) | exact MAt.a12 (by assumption) | exact MAt.a13 (by assumption) | exact MAt.a14 (by assumption) | exact MAt.a15 (by assumption) | exact MAt.a16 (by assumption)) (by rfl) dX8_clauseOf_31 ?_
    rw [fU_eq]
    first | refine r_if_le_n (tgt := 39) dX8_clauseOf_34 (by decide) (by omega) (fun h34 => by exfalso; omega) (fun h34 => ?_) | refine r_if_le (tgt := 39) dX8_clauseOf_34 (by decide) (fun h34 => by exfalso; omega) (fun h34 => ?_)
    refine r_iconst (v := nI 0) dX8_clauseOf_37 (by decide) ?_
    refine r_iret rfl (by first | rfl | exact bI_nar _) dX8_clauseOf_38 ?_
    exact hq _ (MX_iff.mpr ⟨_, _, hM, hP.f6 1, hR, rfl⟩)
  obtain ⟨i, hi, rfl⟩ := (inB_iff (by omega)).mp h6
  rw [e1] at h6 hi
  simp only [h6, not_true_eq_false, if_false, nI_cl (show i < 2147483648 by omega)] at hq
  refine r_iload_n dX8_clauseOf_13 rfl ?_
  refine r_iconst (v := nI 0) dX8_clauseOf_14 (by decide) ?_
  refine r_iconst (v := nI 3) dX8_clauseOf_15 (by decide) ?_
  refine r_callS s_X8_82_s dX8_clauseOf_16 (by rfl) rfl (Nat.le_of_ble_eq_true rfl) (m_in _ _ _ (nm_e ?_))
  refine mK_r ?_
  first | refine r_if_ne_b (tgt := 26) dX8_clauseOf_19 (by decide) (fun h19 => ?_) (fun h19 => ?_) | refine r_if_ne_n (tgt := 26) dX8_clauseOf_19 (by decide) (by omega) (fun h19 => ?_) (fun h19 => ?_) | refine r_if_ne (tgt := 26) dX8_clauseOf_19 (by decide) (fun h19 => ?_) (fun h19 => ?_)
  rotate_left
  · rw [if_pos (by rw [show inR w 0 3 = false from h19]; decide)] at hq
    refine r_iconst (v := nI 2) dX8_clauseOf_22 (by decide) ?_
    refine r_goto (tgt := 27) dX8_clauseOf_23 (by decide) ?_
    refine r_putf f_X8_64_7 ft_7_6 (by first | exact MAt.o (by assumption) | exact MAt.a1 (by assumption) | exact MAt.a2 (by assumption) | exact MAt.a3 (by assumption) | exact MAt.a4 (by assumption) | exact MAt.a5 (by assumption) | exact MAt.a6 (by assumption) | exact MAt.a7 (by assumption) | exact MAt.a8 (by assumption) | exact MAt.a9 (by assumption) | exact MAt.a10 (by assumption) | exact MAt.a11 (by assumption) | exact MAt.a12 (by assumption) | exact MAt.a13 (by assumption) | exact MAt.a14 (by assumption) | exact MAt.a15 (by assumption) | exact MAt.a16 (by assumption)) (by omega) (by first | rfl | exact bI_nar _) (by first | rfl | exact bI_fit _) dX8_clauseOf_27 ?_
    refine MAt.p6 (by assumption) (fun M hM => ?_)
    first | refine r_aload_n dX8_clauseOf_30 rfl ?_ | refine r_aload_nq dX8_clauseOf_30 rfl ?_ | refine r_aload_nN dX8_clauseOf_30 rfl ?_
    refine r_getf f_X8_64_7 (by first | exact MAt.o (by assumption) | exact MAt.a1 (by assumption) | exact MAt.a2 (by assumption) | exact MAt.a3 (by assumption) | exact MAt.a4 (by assumption) | exact MAt.a5 (by assumption) | exact MAt.a6 (by assumption) | exact MAt.a7 (by assumption) | exact MAt.a8 (by assumption) | exact MAt.a9 (by assumption) | exact MAt.a10 (by assumption) | exact MAt.a11 (by assumption) | exact MAt.a12 (by assumption) | exact MAt.a13 (by assumption) | exact MAt.a14 (by assumption) | exact MAt.a15 (by assumption) | exact MAt.a16 (by assumption)) (by rfl) dX8_clauseOf_31 ?_
    rw [fU_eq]
    first | refine r_if_le_n (tgt := 39) dX8_clauseOf_34 (by decide) (by omega) (fun h34 => by exfalso; omega) (fun h34 => ?_) | refine r_if_le (tgt := 39) dX8_clauseOf_34 (by decide) (fun h34 => by exfalso; omega) (fun h34 => ?_)
    refine r_iconst (v := nI 0) dX8_clauseOf_37 (by decide) ?_
    refine r_iret rfl (by first | rfl | exact bI_nar _) dX8_clauseOf_38 ?_
    exact hq _ (MX_iff.mpr ⟨_, _, hM, hP.f6 2, hR, rfl⟩)
  have h19 : inR w 0 3 = true := h19
  obtain ⟨w, _, hw, rfl⟩ := (inR_iff (lo := 0) (hi := 3) (by decide) (by decide)).mp h19
  simp only [h19, not_true_eq_false, if_false, nI_cl (show w < 2147483648 by omega)] at hq
  have e5i := e5 i hi
  have fin : ∀ M, MAt B M m (fU F 6 0) (xD X) A → MX B M m X 0 := fun M hM => MX_iff.mpr ⟨_, _, hM, hP.f6 0, hR, rfl⟩
  refine r_iconst (v := nI 0) dX8_clauseOf_26 (by decide) ?_
  refine r_putf f_X8_64_7 ft_7_6 (by first | exact MAt.o (by assumption) | exact MAt.a1 (by assumption) | exact MAt.a2 (by assumption) | exact MAt.a3 (by assumption) | exact MAt.a4 (by assumption) | exact MAt.a5 (by assumption) | exact MAt.a6 (by assumption) | exact MAt.a7 (by assumption) | exact MAt.a8 (by assumption) | exact MAt.a9 (by assumption) | exact MAt.a10 (by assumption) | exact MAt.a11 (by assumption) | exact MAt.a12 (by assumption) | exact MAt.a13 (by assumption) | exact MAt.a14 (by assumption) | exact MAt.a15 (by assumption) | exact MAt.a16 (by assumption)) (by omega) (by first | rfl | exact bI_nar _) (by first | rfl | exact bI_fit _) dX8_clauseOf_27 ?_
  refine MAt.p6 (by assumption) (fun M hM => ?_)
  first | refine r_aload_n dX8_clauseOf_30 rfl ?_ | refine r_aload_nq dX8_clauseOf_30 rfl ?_ | refine r_aload_nN dX8_clauseOf_30 rfl ?_
  refine r_getf f_X8_64_7 (by first | exact MAt.o (by assumption) | exact MAt.a1 (by assumption) | exact MAt.a2 (by assumption) | exact MAt.a3 (by assumption) | exact MAt.a4 (by assumption) | exact MAt.a5 (by assumption) | exact MAt.a6 (by assumption) | exact MAt.a7 (by assumption) | exact MAt.a8 (by assumption) | exact MAt.a9 (by assumption) | exact MAt.a10 (by assumption) | exact MAt.a11 (by assumption) | exact MAt.a12 (by assumption) | exact MAt.a13 (by assumption) | exact MAt.a14 (by assumption) | exact MAt.a15 (by assumption) | exact MAt.a16 (by assumption)) (by rfl) dX8_clauseOf_31 ?_
  rw [fU_eq]
  first | refine r_if_le_n (tgt := 39) dX8_clauseOf_34 (by decide) (by omega) (fun h34 => ?_) (fun h34 => by exfalso; omega) | refine r_if_le (tgt := 39) dX8_clauseOf_34 (by decide) (fun h34 => ?_) (fun h34 => by exfalso; omega)
  obtain rfl | rfl | rfl | rfl : w = 0 ∨ w = 1 ∨ w = 2 ∨ w = 3 := by omega
  · refine r_iload_n dX8_clauseOf_39 rfl ?_
    refine r_iconst (v := nI 3) dX8_clauseOf_40 (by decide) ?_
    first | refine r_icmp_ge_n (tgt := 58) dX8_clauseOf_41 (by decide) (by omega) (by omega) (fun h41 => by exfalso; omega) (fun h41 => ?_) | refine r_icmp_ge (tgt := 58) dX8_clauseOf_41 (by decide) (fun h41 => by exfalso; omega) (fun h41 => ?_)
    first | refine r_aload_n dX8_clauseOf_44 rfl ?_ | refine r_aload_nq dX8_clauseOf_44 rfl ?_ | refine r_aload_nN dX8_clauseOf_44 rfl ?_
    refine r_getf f_X8_9_7 (by first | exact MAt.o (by assumption) | exact MAt.a1 (by assumption) | exact MAt.a2 (by assumption) | exact MAt.a3 (by assumption) | exact MAt.a4 (by assumption) | exact MAt.a5 (by assumption) | exact MAt.a6 (by assumption) | exact MAt.a7 (by assumption) | exact MAt.a8 (by assumption) | exact MAt.a9 (by assumption) | exact MAt.a10 (by assumption) | exact MAt.a11 (by assumption) | exact MAt.a12 (by assumption) | exact MAt.a13 (by assumption) | exact MAt.a14 (by assumption) | exact MAt.a15 (by assumption) | exact MAt.a16 (by assumption)) (by rfl) dX8_clauseOf_45 ?_
    refine r_bipush (v := nI 37) dX8_clauseOf_48 (by decide) ?_
    refine r_iconst (v := nI 3) dX8_clauseOf_50 (by decide) ?_
    refine r_iload_n dX8_clauseOf_51 rfl ?_
    first | refine r_imul_n dX8_clauseOf_52 ?_ | refine r_imul dX8_clauseOf_52 ?_
    first | refine r_iadd_n dX8_clauseOf_53 ?_ | refine r_iadd dX8_clauseOf_53 ?_
    refine r_iload_n dX8_clauseOf_54 rfl ?_
    first | refine r_iadd_n dX8_clauseOf_55 ?_ | refine r_iadd dX8_clauseOf_55 ?_
    refine r_iald_n (by first | exact MAt.o (by assumption) | exact MAt.a1 (by assumption) | exact MAt.a2 (by assumption) | exact MAt.a3 (by assumption) | exact MAt.a4 (by assumption) | exact MAt.a5 (by assumption) | exact MAt.a6 (by assumption) | exact MAt.a7 (by assumption) | exact MAt.a8 (by assumption) | exact MAt.a9 (by assumption) | exact MAt.a10 (by assumption) | exact MAt.a11 (by assumption) | exact MAt.a12 (by assumption) | exact MAt.a13 (by assumption) | exact MAt.a14 (by assumption) | exact MAt.a15 (by assumption) | exact MAt.a16 (by assumption)) (by rfl) (by omega) (by omega) dX8_clauseOf_56 ?_
    refine r_iret rfl (by first | rfl | exact bI_nar _) dX8_clauseOf_57 ?_
    rw [show 37 + 3 * i + 0 = 37 + 3 * i from rfl, e5i.1]; exact hq _ (fin _ hM)
  · refine r_iload_n dX8_clauseOf_39 rfl ?_
    refine r_iconst (v := nI 3) dX8_clauseOf_40 (by decide) ?_
    first | refine r_icmp_ge_n (tgt := 58) dX8_clauseOf_41 (by decide) (by omega) (by omega) (fun h41 => by exfalso; omega) (fun h41 => ?_) | refine r_icmp_ge (tgt := 58) dX8_clauseOf_41 (by decide) (fun h41 => by exfalso; omega) (fun h41 => ?_)
    first | refine r_aload_n dX8_clauseOf_44 rfl ?_ | refine r_aload_nq dX8_clauseOf_44 rfl ?_ | refine r_aload_nN dX8_clauseOf_44 rfl ?_
    refine r_getf f_X8_9_7 (by first | exact MAt.o (by assumption) | exact MAt.a1 (by assumption) | exact MAt.a2 (by assumption) | exact MAt.a3 (by assumption) | exact MAt.a4 (by assumption) | exact MAt.a5 (by assumption) | exact MAt.a6 (by assumption) | exact MAt.a7 (by assumption) | exact MAt.a8 (by assumption) | exact MAt.a9 (by assumption) | exact MAt.a10 (by assumption) | exact MAt.a11 (by assumption) | exact MAt.a12 (by assumption) | exact MAt.a13 (by assumption) | exact MAt.a14 (by assumption) | exact MAt.a15 (by assumption) | exact MAt.a16 (by assumption)) (by rfl) dX8_clauseOf_45 ?_
    refine r_bipush (v := nI 37) dX8_clauseOf_48 (by decide) ?_
    refine r_iconst (v := nI 3) dX8_clauseOf_50 (by decide) ?_
    refine r_iload_n dX8_clauseOf_51 rfl ?_
    first | refine r_imul_n dX8_clauseOf_52 ?_ | refine r_imul dX8_clauseOf_52 ?_
    first | refine r_iadd_n dX8_clauseOf_53 ?_ | refine r_iadd dX8_clauseOf_53 ?_
    refine r_iload_n dX8_clauseOf_54 rfl ?_
    first | refine r_iadd_n dX8_clauseOf_55 ?_ | refine r_iadd dX8_clauseOf_55 ?_
    refine r_iald_n (by first | exact MAt.o (by assumption) | exact MAt.a1 (by assumption) | exact MAt.a2 (by assumption) | exact MAt.a3 (by assumption) | exact MAt.a4 (by assumption) | exact MAt.a5 (by assumption) | exact MAt.a6 (by assumption) | exact MAt.a7 (by assumption) | exact MAt.a8 (by assumption) | exact MAt.a9 (by assumption) | exact MAt.a10 (by assumption) | exact MAt.a11 (by assumption) | exact MAt.a12 (by assumption) | exact MAt.a13 (by assumption) | exact MAt.a14 (by assumption) | exact MAt.a15 (by assumption) | exact MAt.a16 (by assumption)) (by rfl) (by omega) (by omega) dX8_clauseOf_56 ?_
    refine r_iret rfl (by first | rfl | exact bI_nar _) dX8_clauseOf_57 ?_
    rw [show 37 + 3 * i + 1 = 38 + 3 * i by omega, e5i.2.1]; exact hq _ (fin _ hM)
  · refine r_iload_n dX8_clauseOf_39 rfl ?_
    refine r_iconst (v := nI 3) dX8_clauseOf_40 (by decide) ?_
    first | refine r_icmp_ge_n (tgt := 58) dX8_clauseOf_41 (by decide) (by omega) (by omega) (fun h41 => by exfalso; omega) (fun h41 => ?_) | refine r_icmp_ge (tgt := 58) dX8_clauseOf_41 (by decide) (fun h41 => by exfalso; omega) (fun h41 => ?_)
    first | refine r_aload_n dX8_clauseOf_44 rfl ?_ | refine r_aload_nq dX8_clauseOf_44 rfl ?_ | refine r_aload_nN dX8_clauseOf_44 rfl ?_
    refine r_getf f_X8_9_7 (by first | exact MAt.o (by assumption) | exact MAt.a1 (by assumption) | exact MAt.a2 (by assumption) | exact MAt.a3 (by assumption) | exact MAt.a4 (by assumption) | exact MAt.a5 (by assumption) | exact MAt.a6 (by assumption) | exact MAt.a7 (by assumption) | exact MAt.a8 (by assumption) | exact MAt.a9 (by assumption) | exact MAt.a10 (by assumption) | exact MAt.a11 (by assumption) | exact MAt.a12 (by assumption) | exact MAt.a13 (by assumption) | exact MAt.a14 (by assumption) | exact MAt.a15 (by assumption) | exact MAt.a16 (by assumption)) (by rfl) dX8_clauseOf_45 ?_
    refine r_bipush (v := nI 37) dX8_clauseOf_48 (by decide) ?_
    refine r_iconst (v := nI 3) dX8_clauseOf_50 (by decide) ?_
    refine r_iload_n dX8_clauseOf_51 rfl ?_
    first | refine r_imul_n dX8_clauseOf_52 ?_ | refine r_imul dX8_clauseOf_52 ?_
    first | refine r_iadd_n dX8_clauseOf_53 ?_ | refine r_iadd dX8_clauseOf_53 ?_
    refine r_iload_n dX8_clauseOf_54 rfl ?_
    first | refine r_iadd_n dX8_clauseOf_55 ?_ | refine r_iadd dX8_clauseOf_55 ?_
    refine r_iald_n (by first | exact MAt.o (by assumption) | exact MAt.a1 (by assumption) | exact MAt.a2 (by assumption) | exact MAt.a3 (by assumption) | exact MAt.a4 (by assumption) | exact MAt.a5 (by assumption) | exact MAt.a6 (by assumption) | exact MAt.a7 (by assumption) | exact MAt.a8 (by assumption) | exact MAt.a9 (by assumption) | exact MAt.a10 (by assumption) | exact MAt.a11 (by assumption) | exact MAt.a12 (by assumption) | exact MAt.a13 (by assumption) | exact MAt.a14 (by assumption) | exact MAt.a15 (by assumption) | exact MAt.a16 (by assumption)) (by rfl) (by omega) (by omega) dX8_clauseOf_56 ?_
    refine r_iret rfl (by first | rfl | exact bI_nar _) dX8_clauseOf_57 ?_
    rw [show 37 + 3 * i + 2 = 39 + 3 * i by omega, e5i.2.2.1]; exact hq _ (fin _ hM)
  · refine r_iload_n dX8_clauseOf_39 rfl ?_
    refine r_iconst (v := nI 3) dX8_clauseOf_40 (by decide) ?_
    first | refine r_icmp_ge_n (tgt := 58) dX8_clauseOf_41 (by decide) (by omega) (by omega) (fun h41 => ?_) (fun h41 => by exfalso; omega) | refine r_icmp_ge (tgt := 58) dX8_clauseOf_41 (by decide) (fun h41 => ?_) (fun h41 => by exfalso; omega)
    first | refine r_aload_n dX8_clauseOf_58 rfl ?_ | refine r_aload_nq dX8_clauseOf_58 rfl ?_ | refine r_aload_nN dX8_clauseOf_58 rfl ?_
    refine r_callV s_X8_169_v dX8_clauseOf_59 (by first | exact MAt.o (by assumption) | exact MAt.a1 (by assumption) | exact MAt.a2 (by assumption) | exact MAt.a3 (by assumption) | exact MAt.a4 (by assumption) | exact MAt.a5 (by assumption) | exact MAt.a6 (by assumption) | exact MAt.a7 (by assumption) | exact MAt.a8 (by assumption) | exact MAt.a9 (by assumption) | exact MAt.a10 (by assumption) | exact MAt.a11 (by assumption) | exact MAt.a12 (by assumption) | exact MAt.a13 (by assumption) | exact MAt.a14 (by assumption) | exact MAt.a15 (by assumption) | exact MAt.a16 (by assumption)) (by rfl) rfl (Nat.le_of_ble_eq_true rfl) (m_nests hM hb (by omega) (wso (xW X)) (fun k hk => (e5 k (by omega)).1.symm) (fun k hk => xOk_so hP.1 k (by omega)) (fun M F' A' hM' kF kA hN => ?_))
    refine mK_r ?_
    rw [e1] at hN ⊢
    have hX : MX B M m X (F' 6) := MX.kp hM' hP hR (MKp.t6.tr (MKp.of kF kA))
    rw [kF 6 (by decide), fU_eq] at hX
    first | refine r_if_eq_b (tgt := 74) dX8_clauseOf_62 (by decide) (fun h62 => ?_) (fun h62 => ?_) | refine r_if_eq_n (tgt := 74) dX8_clauseOf_62 (by decide) (by omega) (fun h62 => ?_) (fun h62 => ?_) | refine r_if_eq (tgt := 74) dX8_clauseOf_62 (by decide) (fun h62 => ?_) (fun h62 => ?_)
    · rw [if_neg (by rw [h62]; decide)] at hq
      refine r_iconst (v := -1) dX8_clauseOf_74 (by decide) ?_
      refine r_iret rfl (by first | rfl | exact bI_nar _) dX8_clauseOf_75 ?_
      exact hq _ hX
    · rw [if_pos h62] at hq
      obtain ⟨n7, -⟩ := hN h62
      have := n7 i hi
      first | refine r_aload_n dX8_clauseOf_65 rfl ?_ | refine r_aload_nq dX8_clauseOf_65 rfl ?_ | refine r_aload_nN dX8_clauseOf_65 rfl ?_
      refine r_getf f_X8_28_7 (by first | exact MAt.o (by assumption) | exact MAt.a1 (by assumption) | exact MAt.a2 (by assumption) | exact MAt.a3 (by assumption) | exact MAt.a4 (by assumption) | exact MAt.a5 (by assumption) | exact MAt.a6 (by assumption) | exact MAt.a7 (by assumption) | exact MAt.a8 (by assumption) | exact MAt.a9 (by assumption) | exact MAt.a10 (by assumption) | exact MAt.a11 (by assumption) | exact MAt.a12 (by assumption) | exact MAt.a13 (by assumption) | exact MAt.a14 (by assumption) | exact MAt.a15 (by assumption) | exact MAt.a16 (by assumption)) (by rfl) dX8_clauseOf_66 ?_
      refine r_iload_n dX8_clauseOf_69 rfl ?_
      refine r_iald_n (by first | exact MAt.o (by assumption) | exact MAt.a1 (by assumption) | exact MAt.a2 (by assumption) | exact MAt.a3 (by assumption) | exact MAt.a4 (by assumption) | exact MAt.a5 (by assumption) | exact MAt.a6 (by assumption) | exact MAt.a7 (by assumption) | exact MAt.a8 (by assumption) | exact MAt.a9 (by assumption) | exact MAt.a10 (by assumption) | exact MAt.a11 (by assumption) | exact MAt.a12 (by assumption) | exact MAt.a13 (by assumption) | exact MAt.a14 (by assumption) | exact MAt.a15 (by assumption) | exact MAt.a16 (by assumption)) (by rfl) (by omega) (by omega) dX8_clauseOf_70 ?_
      refine r_goto (tgt := 75) dX8_clauseOf_71 (by decide) ?_
      refine r_iret rfl (by first | rfl | exact bI_nar _) dX8_clauseOf_75 ?_
      rw [this]
      exact hq _ hX
theorem loopC (h : MAt B M m F D A) : ∀ (g : Fo) (q d1 e1 x acc T : Nat) (p0 : Option Value) (Q : mQt), me (A 8) (A 9) q g → wb (fun k => A 1 (37 + 3 * k)) q g d1 e1 → T = q + fl g → T ≤ 24 → fh g ≤ x → Q (.inl (some (.int (nI (acc * fc g))))) M t u →
    mW G zX8_count (d + x + 1) 5 [some (.ref m), p0, some (.int (nI T)), some (.int (nI acc)), some (.int (nI q))] [] M t u Q
  | .var _, q, d1, e1, x, acc, T, p0, Q, hm, hw, hT, hT2, hx, hq => by
    simp only [fl] at hT
    refine r_iload dX8_count_5 rfl ?_
    refine r_iload_n dX8_count_7 rfl ?_
    first | refine r_icmp_ge_n (tgt := 76) dX8_count_8 (by decide) (by omega) (by omega) (fun h8 => ?_) (fun h8 => by exfalso; omega) | refine r_icmp_ge (tgt := 76) dX8_count_8 (by decide) (fun h8 => ?_) (fun h8 => by exfalso; omega)
    refine r_iload_n dX8_count_76 rfl ?_
    refine r_iret rfl (by first | rfl | exact bI_nar _) dX8_count_77 ?_
    rw [show acc * fc (.var _) = acc from Nat.mul_one acc] at hq
    exact hq
  | .op (.var v) r, q, d1, e1, x, acc, T, p0, Q, hm, hw, hT, hT2, hx, hq => by
    simp only [fl] at hT
    have hs : A 1 (37 + 3 * q) < 7 := by
      rcases hw with ⟨h0, -⟩ | ⟨h0, -⟩ | ⟨h0, -⟩ <;> simp only at h0 <;> omega
    have nx : mW G zX8_count (d + x + 1) 5 [some (.ref m), p0, some (.int (nI T)), some (.int (nI acc)), some (.int (nI (q + 1)))] [] M t u Q := by
      rcases hw with ⟨h0, hw⟩ | ⟨h0, d', hd, hw⟩ | ⟨h0, hw⟩
      · exact loopC h r (q + 1) _ _ x acc T p0 Q hm hw (by omega) hT2 hx hq
      · exact loopC h r (q + 1) _ _ x acc T p0 Q hm hw (by omega) hT2 hx hq
      · exact loopC h r (q + 1) _ _ x acc T p0 Q hm hw (by omega) hT2 hx hq
    refine r_iload dX8_count_5 rfl ?_
    refine r_iload_n dX8_count_7 rfl ?_
    first | refine r_icmp_ge_n (tgt := 76) dX8_count_8 (by decide) (by omega) (by omega) (fun h8 => by exfalso; omega) (fun h8 => ?_) | refine r_icmp_ge (tgt := 76) dX8_count_8 (by decide) (fun h8 => by exfalso; omega) (fun h8 => ?_)
    first | refine r_aload_n dX8_count_11 rfl ?_ | refine r_aload_nq dX8_count_11 rfl ?_ | refine r_aload_nN dX8_count_11 rfl ?_
    refine r_iload dX8_count_12 rfl ?_
    refine r_callV s_X8_110_v dX8_count_14 (by first | exact MAt.o (by assumption) | exact MAt.a1 (by assumption) | exact MAt.a2 (by assumption) | exact MAt.a3 (by assumption) | exact MAt.a4 (by assumption) | exact MAt.a5 (by assumption) | exact MAt.a6 (by assumption) | exact MAt.a7 (by assumption) | exact MAt.a8 (by assumption) | exact MAt.a9 (by assumption) | exact MAt.a10 (by assumption) | exact MAt.a11 (by assumption) | exact MAt.a12 (by assumption) | exact MAt.a13 (by assumption) | exact MAt.a14 (by assumption) | exact MAt.a15 (by assumption) | exact MAt.a16 (by assumption)) (by rfl) rfl (Nat.le_of_ble_eq_true rfl) (m_sort h q (by omega) ?_)
    refine mK_r ?_
    refine r_bipush (v := nI 7) dX8_count_17 (by decide) ?_
    first | refine r_icmp_ne_n (tgt := 70) dX8_count_19 (by decide) (by omega) (by omega) (fun h19 => ?_) (fun h19 => by exfalso; omega) | refine r_icmp_ne_pn (tgt := 70) dX8_count_19 (by decide) (by omega) (by omega) (fun h19 => ?_) (fun h19 => by exfalso; omega) | refine r_icmp_ne_pm (tgt := 70) dX8_count_19 (by decide) (by omega) (fun h19 => ?_) (fun h19 => by exfalso; omega) | refine r_icmp_ne (tgt := 70) dX8_count_19 (by decide) (fun h19 => ?_) (fun h19 => by exfalso; omega)
    first | refine r_iinc_n 1 dX8_count_70 rfl (by decide) ?_ | refine r_iinc dX8_count_70 rfl rfl (by decide) ?_
    simp only [mst1, mclr]
    refine r_goto (tgt := 5) dX8_count_73 (by decide) ?_
    exact nx
  | .op (.op a b) r, q, d1, e1, x, acc, T, p0, Q, ⟨m1, m2, m3, m4, m5⟩, ⟨w1, w2, w3, w4, w5, w6⟩, hT, hT2, hx, hq => by
    simp only [fl] at hT
    simp only [fh] at hx
    obtain ⟨y, rfl⟩ : ∃ y, x = y + 1 := ⟨x - 1, by omega⟩
    have w1 : A 1 (37 + 3 * q) = 7 := w1
    have ca : ∀ Q : mQt, Q (.inl (some (.int (nI (fc a))))) M t u → mMet G (d + y + 1) zX8_count [.ref m, .int (nI (q + 1)), .int (nI (A 8 q))] M t u Q := by
      intro Q hq
      refine m_intro (by decide +kernel) ⟨Nat.le_of_ble_eq_true rfl, Nat.le_of_ble_eq_true rfl⟩ ?_
      show mW G _ _ 0 [some (.ref m), some (.int (nI (q + 1))), some (.int (nI (A 8 q))), none, none] [] _ _ _ _
      refine r_iconst (v := nI 1) dX8_count_0 (by decide) ?_
      refine r_istore_n dX8_count_1 (by decide) ?_
      simp only [mst1, mclr]
      refine r_iload_n dX8_count_2 rfl ?_
      refine r_istore dX8_count_3 (by decide) ?_
      simp only [mst1, mclr]
      exact loopC h a (q + 1) _ _ y 1 (A 8 q) _ Q m3 w2 m1 (by omega) (by omega) (by rw [Nat.one_mul]; exact hq)
    have cb : ∀ Q : mQt, Q (.inl (some (.int (nI (fc b))))) M t u → mMet G (d + y + 1) zX8_count [.ref m, .int (nI (A 8 q + 1)), .int (nI (A 9 q))] M t u Q := by
      intro Q hq
      refine m_intro (by decide +kernel) ⟨Nat.le_of_ble_eq_true rfl, Nat.le_of_ble_eq_true rfl⟩ ?_
      show mW G _ _ 0 [some (.ref m), some (.int (nI (A 8 q + 1))), some (.int (nI (A 9 q))), none, none] [] _ _ _ _
      refine r_iconst (v := nI 1) dX8_count_0 (by decide) ?_
      refine r_istore_n dX8_count_1 (by decide) ?_
      simp only [mst1, mclr]
      refine r_iload_n dX8_count_2 rfl ?_
      refine r_istore dX8_count_3 (by decide) ?_
      simp only [mst1, mclr]
      rw [m1]
      rw [show q + 1 + fl a + 1 = q + 2 + fl a by omega]
      exact loopC h b (q + 2 + fl a) _ _ y 1 (A 9 q) _ Q m4 w4 m2 (by omega) (by omega) (by rw [Nat.one_mul]; exact hq)
    refine r_iload dX8_count_5 rfl ?_
    refine r_iload_n dX8_count_7 rfl ?_
    first | refine r_icmp_ge_n (tgt := 76) dX8_count_8 (by decide) (by omega) (by omega) (fun h8 => by exfalso; omega) (fun h8 => ?_) | refine r_icmp_ge (tgt := 76) dX8_count_8 (by decide) (fun h8 => by exfalso; omega) (fun h8 => ?_)
    first | refine r_aload_n dX8_count_11 rfl ?_ | refine r_aload_nq dX8_count_11 rfl ?_ | refine r_aload_nN dX8_count_11 rfl ?_
    refine r_iload dX8_count_12 rfl ?_
    refine r_callV s_X8_110_v dX8_count_14 (by first | exact MAt.o (by assumption) | exact MAt.a1 (by assumption) | exact MAt.a2 (by assumption) | exact MAt.a3 (by assumption) | exact MAt.a4 (by assumption) | exact MAt.a5 (by assumption) | exact MAt.a6 (by assumption) | exact MAt.a7 (by assumption) | exact MAt.a8 (by assumption) | exact MAt.a9 (by assumption) | exact MAt.a10 (by assumption) | exact MAt.a11 (by assumption) | exact MAt.a12 (by assumption) | exact MAt.a13 (by assumption) | exact MAt.a14 (by assumption) | exact MAt.a15 (by assumption) | exact MAt.a16 (by assumption)) (by rfl) rfl (Nat.le_of_ble_eq_true rfl) (m_sort h q (by omega) ?_)
    refine mK_r ?_
    refine r_bipush (v := nI 7) dX8_count_17 (by decide) ?_
    first | refine r_icmp_ne_n (tgt := 70) dX8_count_19 (by decide) (by omega) (by omega) (fun h19 => by exfalso; omega) (fun h19 => ?_) | refine r_icmp_ne_pn (tgt := 70) dX8_count_19 (by decide) (by omega) (by omega) (fun h19 => by exfalso; omega) (fun h19 => ?_) | refine r_icmp_ne_pm (tgt := 70) dX8_count_19 (by decide) (by omega) (fun h19 => by exfalso; omega) (fun h19 => ?_) | refine r_icmp_ne (tgt := 70) dX8_count_19 (by decide) (fun h19 => by exfalso; omega) (fun h19 => ?_)
    refine r_iload_n dX8_count_22 rfl ?_
    first | refine r_aload_n dX8_count_23 rfl ?_ | refine r_aload_nq dX8_count_23 rfl ?_ | refine r_aload_nN dX8_count_23 rfl ?_
    refine r_iload dX8_count_24 rfl ?_
    refine r_iconst (v := nI 1) dX8_count_26 (by decide) ?_
    first | refine r_iadd_n dX8_count_27 ?_ | refine r_iadd dX8_count_27 ?_
    first | refine r_aload_n dX8_count_28 rfl ?_ | refine r_aload_nq dX8_count_28 rfl ?_ | refine r_aload_nN dX8_count_28 rfl ?_
    refine r_getf f_X8_31_7 (by first | exact MAt.o (by assumption) | exact MAt.a1 (by assumption) | exact MAt.a2 (by assumption) | exact MAt.a3 (by assumption) | exact MAt.a4 (by assumption) | exact MAt.a5 (by assumption) | exact MAt.a6 (by assumption) | exact MAt.a7 (by assumption) | exact MAt.a8 (by assumption) | exact MAt.a9 (by assumption) | exact MAt.a10 (by assumption) | exact MAt.a11 (by assumption) | exact MAt.a12 (by assumption) | exact MAt.a13 (by assumption) | exact MAt.a14 (by assumption) | exact MAt.a15 (by assumption) | exact MAt.a16 (by assumption)) (by rfl) dX8_count_29 ?_
    refine r_iload dX8_count_32 rfl ?_
    refine r_iald_n (by first | exact MAt.o (by assumption) | exact MAt.a1 (by assumption) | exact MAt.a2 (by assumption) | exact MAt.a3 (by assumption) | exact MAt.a4 (by assumption) | exact MAt.a5 (by assumption) | exact MAt.a6 (by assumption) | exact MAt.a7 (by assumption) | exact MAt.a8 (by assumption) | exact MAt.a9 (by assumption) | exact MAt.a10 (by assumption) | exact MAt.a11 (by assumption) | exact MAt.a12 (by assumption) | exact MAt.a13 (by assumption) | exact MAt.a14 (by assumption) | exact MAt.a15 (by assumption) | exact MAt.a16 (by assumption)) (by rfl) (by omega) (by omega) dX8_count_34 ?_
    refine r_callV s_X8_232_v dX8_count_35 (by first | exact MAt.o (by assumption) | exact MAt.a1 (by assumption) | exact MAt.a2 (by assumption) | exact MAt.a3 (by assumption) | exact MAt.a4 (by assumption) | exact MAt.a5 (by assumption) | exact MAt.a6 (by assumption) | exact MAt.a7 (by assumption) | exact MAt.a8 (by assumption) | exact MAt.a9 (by assumption) | exact MAt.a10 (by assumption) | exact MAt.a11 (by assumption) | exact MAt.a12 (by assumption) | exact MAt.a13 (by assumption) | exact MAt.a14 (by assumption) | exact MAt.a15 (by assumption) | exact MAt.a16 (by assumption)) (by rfl) rfl (Nat.le_of_ble_eq_true rfl) (ca _ ?_)
    refine mK_r ?_
    first | refine r_aload_n dX8_count_38 rfl ?_ | refine r_aload_nq dX8_count_38 rfl ?_ | refine r_aload_nN dX8_count_38 rfl ?_
    first | refine r_aload_n dX8_count_39 rfl ?_ | refine r_aload_nq dX8_count_39 rfl ?_ | refine r_aload_nN dX8_count_39 rfl ?_
    refine r_getf f_X8_31_7 (by first | exact MAt.o (by assumption) | exact MAt.a1 (by assumption) | exact MAt.a2 (by assumption) | exact MAt.a3 (by assumption) | exact MAt.a4 (by assumption) | exact MAt.a5 (by assumption) | exact MAt.a6 (by assumption) | exact MAt.a7 (by assumption) | exact MAt.a8 (by assumption) | exact MAt.a9 (by assumption) | exact MAt.a10 (by assumption) | exact MAt.a11 (by assumption) | exact MAt.a12 (by assumption) | exact MAt.a13 (by assumption) | exact MAt.a14 (by assumption) | exact MAt.a15 (by assumption) | exact MAt.a16 (by assumption)) (by rfl) dX8_count_40 ?_
    refine r_iload dX8_count_43 rfl ?_
    refine r_iald_n (by first | exact MAt.o (by assumption) | exact MAt.a1 (by assumption) | exact MAt.a2 (by assumption) | exact MAt.a3 (by assumption) | exact MAt.a4 (by assumption) | exact MAt.a5 (by assumption) | exact MAt.a6 (by assumption) | exact MAt.a7 (by assumption) | exact MAt.a8 (by assumption) | exact MAt.a9 (by assumption) | exact MAt.a10 (by assumption) | exact MAt.a11 (by assumption) | exact MAt.a12 (by assumption) | exact MAt.a13 (by assumption) | exact MAt.a14 (by assumption) | exact MAt.a15 (by assumption) | exact MAt.a16 (by assumption)) (by rfl) (by omega) (by omega) dX8_count_45 ?_
    refine r_iconst (v := nI 1) dX8_count_46 (by decide) ?_
    first | refine r_iadd_n dX8_count_47 ?_ | refine r_iadd dX8_count_47 ?_
    first | refine r_aload_n dX8_count_48 rfl ?_ | refine r_aload_nq dX8_count_48 rfl ?_ | refine r_aload_nN dX8_count_48 rfl ?_
    refine r_getf f_X8_34_7 (by first | exact MAt.o (by assumption) | exact MAt.a1 (by assumption) | exact MAt.a2 (by assumption) | exact MAt.a3 (by assumption) | exact MAt.a4 (by assumption) | exact MAt.a5 (by assumption) | exact MAt.a6 (by assumption) | exact MAt.a7 (by assumption) | exact MAt.a8 (by assumption) | exact MAt.a9 (by assumption) | exact MAt.a10 (by assumption) | exact MAt.a11 (by assumption) | exact MAt.a12 (by assumption) | exact MAt.a13 (by assumption) | exact MAt.a14 (by assumption) | exact MAt.a15 (by assumption) | exact MAt.a16 (by assumption)) (by rfl) dX8_count_49 ?_
    refine r_iload dX8_count_52 rfl ?_
    refine r_iald_n (by first | exact MAt.o (by assumption) | exact MAt.a1 (by assumption) | exact MAt.a2 (by assumption) | exact MAt.a3 (by assumption) | exact MAt.a4 (by assumption) | exact MAt.a5 (by assumption) | exact MAt.a6 (by assumption) | exact MAt.a7 (by assumption) | exact MAt.a8 (by assumption) | exact MAt.a9 (by assumption) | exact MAt.a10 (by assumption) | exact MAt.a11 (by assumption) | exact MAt.a12 (by assumption) | exact MAt.a13 (by assumption) | exact MAt.a14 (by assumption) | exact MAt.a15 (by assumption) | exact MAt.a16 (by assumption)) (by rfl) (by omega) (by omega) dX8_count_54 ?_
    refine r_callV s_X8_232_v dX8_count_55 (by first | exact MAt.o (by assumption) | exact MAt.a1 (by assumption) | exact MAt.a2 (by assumption) | exact MAt.a3 (by assumption) | exact MAt.a4 (by assumption) | exact MAt.a5 (by assumption) | exact MAt.a6 (by assumption) | exact MAt.a7 (by assumption) | exact MAt.a8 (by assumption) | exact MAt.a9 (by assumption) | exact MAt.a10 (by assumption) | exact MAt.a11 (by assumption) | exact MAt.a12 (by assumption) | exact MAt.a13 (by assumption) | exact MAt.a14 (by assumption) | exact MAt.a15 (by assumption) | exact MAt.a16 (by assumption)) (by rfl) rfl (Nat.le_of_ble_eq_true rfl) (cb _ ?_)
    refine mK_r ?_
    first | refine r_iadd_n dX8_count_58 ?_ | refine r_iadd dX8_count_58 ?_
    first | refine r_imul_n dX8_count_59 ?_ | refine r_imul dX8_count_59 ?_
    refine r_istore_n dX8_count_60 (by decide) ?_
    simp only [mst1, mclr]
    first | refine r_aload_n dX8_count_61 rfl ?_ | refine r_aload_nq dX8_count_61 rfl ?_ | refine r_aload_nN dX8_count_61 rfl ?_
    refine r_getf f_X8_34_7 (by first | exact MAt.o (by assumption) | exact MAt.a1 (by assumption) | exact MAt.a2 (by assumption) | exact MAt.a3 (by assumption) | exact MAt.a4 (by assumption) | exact MAt.a5 (by assumption) | exact MAt.a6 (by assumption) | exact MAt.a7 (by assumption) | exact MAt.a8 (by assumption) | exact MAt.a9 (by assumption) | exact MAt.a10 (by assumption) | exact MAt.a11 (by assumption) | exact MAt.a12 (by assumption) | exact MAt.a13 (by assumption) | exact MAt.a14 (by assumption) | exact MAt.a15 (by assumption) | exact MAt.a16 (by assumption)) (by rfl) dX8_count_62 ?_
    refine r_iload dX8_count_65 rfl ?_
    refine r_iald_n (by first | exact MAt.o (by assumption) | exact MAt.a1 (by assumption) | exact MAt.a2 (by assumption) | exact MAt.a3 (by assumption) | exact MAt.a4 (by assumption) | exact MAt.a5 (by assumption) | exact MAt.a6 (by assumption) | exact MAt.a7 (by assumption) | exact MAt.a8 (by assumption) | exact MAt.a9 (by assumption) | exact MAt.a10 (by assumption) | exact MAt.a11 (by assumption) | exact MAt.a12 (by assumption) | exact MAt.a13 (by assumption) | exact MAt.a14 (by assumption) | exact MAt.a15 (by assumption) | exact MAt.a16 (by assumption)) (by rfl) (by omega) (by omega) dX8_count_67 ?_
    refine r_istore dX8_count_68 (by decide) ?_
    simp only [mst1, mclr]
    first | refine r_iinc_n 1 dX8_count_70 rfl (by decide) ?_ | refine r_iinc dX8_count_70 rfl rfl (by decide) ?_
    simp only [mst1, mclr]
    refine r_goto (tgt := 5) dX8_count_73 (by decide) ?_
    rw [m2, show q + 2 + fl a + fl b + 1 = q + 3 + fl a + fl b by omega]
    refine loopC h r (q + 3 + fl a + fl b) d1 e1 (y + 1) (acc * (fc a + fc b)) T p0 Q m5 w6 (by omega) hT2 (by omega) ?_
    rw [Nat.mul_assoc]; exact hq
theorem m_count (h : MAt B M m F D A) (g : Fo) (q d1 e1 x T : Nat) (hm : me (A 8) (A 9) q g) (hw : wb (fun k => A 1 (37 + 3 * k)) q g d1 e1) (hT : T = q + fl g) (hT2 : T ≤ 24) (hx : fh g ≤ x) (hq : Q (.inl (some (.int (nI (fc g))))) M t u) : mMet G (d + x + 1) zX8_count [.ref m, .int (nI q), .int (nI T)] M t u Q := by
  refine m_intro (by decide +kernel) ⟨Nat.le_of_ble_eq_true rfl, Nat.le_of_ble_eq_true rfl⟩ ?_
  show mW G _ _ 0 [some (.ref m), some (.int (nI q)), some (.int (nI T)), none, none] [] _ _ _ _
  refine r_iconst (v := nI 1) dX8_count_0 (by decide) ?_
  refine r_istore_n dX8_count_1 (by decide) ?_
  simp only [mst1, mclr]
  refine r_iload_n dX8_count_2 rfl ?_
  refine r_istore dX8_count_3 (by decide) ?_
  simp only [mst1, mclr]
  exact loopC h g q d1 e1 x 1 T _ Q hm hw hT hT2 hx (by rw [Nat.one_mul]; exact hq)
theorem wb_congr {so so' : Nat → Nat} : ∀ {f : Fo} {p d e : Nat}, (∀ k, p ≤ k → k < p + fl f → so k = so' k) → wb so p f d e → wb so' p f d e
  | .var _, p, d, e, _, hw => hw
  | .op (.var v) r, p, d, e, h, hw => by
    have hp := h p (Nat.le_refl _) (by simp only [fl]; omega)
    have hh : ∀ k, p + 1 ≤ k → k < p + 1 + fl r → so k = so' k := fun k h1 h2 => h k (by omega) (by simp only [fl]; omega)
    rcases hw with ⟨h0, hw⟩ | ⟨h0, d', hd, hw⟩ | ⟨h0, hw⟩
    · exact Or.inl ⟨by rw [← hp]; exact h0, wb_congr hh hw⟩
    · exact Or.inr (Or.inl ⟨by rw [← hp]; exact h0, d', hd, wb_congr hh hw⟩)
    · exact Or.inr (Or.inr ⟨by rw [← hp]; exact h0, wb_congr hh hw⟩)
  | .op (.op a b) r, p, d, e, h, ⟨w1, w2, w3, w4, w5, w6⟩ => by
    have hh : ∀ k, p ≤ k → k < p + 3 + fl a + fl b + fl r → so k = so' k := fun k h1 h2 => h k h1 (by simp only [fl]; omega)
    exact ⟨by rw [← hh p (by omega) (by omega)]; exact w1, wb_congr (fun k h1 h2 => hh k (by omega) (by omega)) w2, by rw [← hh _ (by omega) (by omega)]; exact w3, wb_congr (fun k h1 h2 => hh k (by omega) (by omega)) w4, by rw [← hh _ (by omega) (by omega)]; exact w5, wb_congr (fun k h1 h2 => hh k (by omega) (by omega)) w6⟩
/-- the paths are counted: behind it the middles and ends of the choices are kept -/
theorem m_pathMany (h : MAt B M m F D A) (hb : mGb G ≤ m) {W : WT} (hw : wOk W) (hR : mR W (A 1))
   (hq : ∀ M F' A', MAt B M m F' D A' → (∀ k, k ≠ 14 → F' k = F k) → (∀ i, (i < 5 ∨ 9 < i) → A' i = A i) → (nestB (wso W) (wn W) = true → me (A' 8) (A' 9) 0 (pT (wso W) (wn W))) → Q (.inl (some (.int (nI (pN (wso W) (wn W)))))) M t u) : mMet G (d + 10) zX8_pathMany [.ref m] M t u Q := by
  refine m_intro (by decide +kernel) ⟨Nat.le_of_ble_eq_true rfl, Nat.le_of_ble_eq_true rfl⟩ ?_
  show mW G _ _ 0 [some (.ref m)] [] _ _ _ _
  obtain ⟨⟨e0, hm⟩, ⟨e1, hn⟩, ⟨e2, hcg⟩, e3, e4, e5⟩ := mR_up hw hR
  have hso : ∀ k, k < wn W → wso W k < 10 := fun k hk => (hw.2.2.2.2.2 k hk).1
  first | refine r_aload_n dX8_pathMany_0 rfl ?_ | refine r_aload_nq dX8_pathMany_0 rfl ?_ | refine r_aload_nN dX8_pathMany_0 rfl ?_
  refine r_callV s_X8_169_v dX8_pathMany_1 (by first | exact MAt.o (by assumption) | exact MAt.a1 (by assumption) | exact MAt.a2 (by assumption) | exact MAt.a3 (by assumption) | exact MAt.a4 (by assumption) | exact MAt.a5 (by assumption) | exact MAt.a6 (by assumption) | exact MAt.a7 (by assumption) | exact MAt.a8 (by assumption) | exact MAt.a9 (by assumption) | exact MAt.a10 (by assumption) | exact MAt.a11 (by assumption) | exact MAt.a12 (by assumption) | exact MAt.a13 (by assumption) | exact MAt.a14 (by assumption) | exact MAt.a15 (by assumption) | exact MAt.a16 (by assumption)) (by rfl) rfl (Nat.le_of_ble_eq_true rfl) (m_nests h hb (by omega) (wso W) (fun k hk => (e5 k (by omega)).1.symm) (fun k hk => hso k (by omega)) (fun M F' A' hM kF kA hN => ?_))
  refine mK_r ?_
  rw [e1] at hN ⊢
  have hq := hq M F' A' hM kF kA
  first | refine r_if_eq_b (tgt := 21) dX8_pathMany_4 (by decide) (fun h4 => ?_) (fun h4 => ?_) | refine r_if_eq_n (tgt := 21) dX8_pathMany_4 (by decide) (by omega) (fun h4 => ?_) (fun h4 => ?_) | refine r_if_eq (tgt := 21) dX8_pathMany_4 (by decide) (fun h4 => ?_) (fun h4 => ?_)
  · have e : pN (wso W) (wn W) = 0 := by unfold pN; rw [if_neg (by rw [h4]; decide)]
    rw [e] at hq
    refine r_iconst (v := nI 0) dX8_pathMany_21 (by decide) ?_
    refine r_iret rfl (by first | rfl | exact bI_nar _) dX8_pathMany_22 ?_
    exact hq (fun h => by rw [h4] at h; cases h)
  · obtain ⟨p1, p2⟩ := pT_spec hso h4
    obtain ⟨-, -, mi, ei, hr⟩ := hN h4
    have hme := nest_me p1 p2 hr
    have e : pN (wso W) (wn W) = fc (pT (wso W) (wn W)) := by unfold pN; rw [if_pos h4]
    have a1 : A' 1 = A 1 := kA 1 (by decide)
    have a11 : A' 1 1 = wn W := by rw [a1]; exact e1
    have hfh := fh_le (pT (wso W) (wn W))
    have hwb : wb (fun k => A' 1 (37 + 3 * k)) 0 (pT (wso W) (wn W)) 0 0 := wb_congr (fun k h1 h2 => by rw [a1, (e5 k (by omega)).1]) p2
    rw [e] at hq
    first | refine r_aload_n dX8_pathMany_7 rfl ?_ | refine r_aload_nq dX8_pathMany_7 rfl ?_ | refine r_aload_nN dX8_pathMany_7 rfl ?_
    refine r_iconst (v := nI 0) dX8_pathMany_8 (by decide) ?_
    first | refine r_aload_n dX8_pathMany_9 rfl ?_ | refine r_aload_nq dX8_pathMany_9 rfl ?_ | refine r_aload_nN dX8_pathMany_9 rfl ?_
    refine r_getf f_X8_9_7 (by first | exact MAt.o (by assumption) | exact MAt.a1 (by assumption) | exact MAt.a2 (by assumption) | exact MAt.a3 (by assumption) | exact MAt.a4 (by assumption) | exact MAt.a5 (by assumption) | exact MAt.a6 (by assumption) | exact MAt.a7 (by assumption) | exact MAt.a8 (by assumption) | exact MAt.a9 (by assumption) | exact MAt.a10 (by assumption) | exact MAt.a11 (by assumption) | exact MAt.a12 (by assumption) | exact MAt.a13 (by assumption) | exact MAt.a14 (by assumption) | exact MAt.a15 (by assumption) | exact MAt.a16 (by assumption)) (by rfl) dX8_pathMany_10 ?_
    refine r_iconst (v := nI 1) dX8_pathMany_13 (by decide) ?_
    refine r_iald_n (by first | exact MAt.o (by assumption) | exact MAt.a1 (by assumption) | exact MAt.a2 (by assumption) | exact MAt.a3 (by assumption) | exact MAt.a4 (by assumption) | exact MAt.a5 (by assumption) | exact MAt.a6 (by assumption) | exact MAt.a7 (by assumption) | exact MAt.a8 (by assumption) | exact MAt.a9 (by assumption) | exact MAt.a10 (by assumption) | exact MAt.a11 (by assumption) | exact MAt.a12 (by assumption) | exact MAt.a13 (by assumption) | exact MAt.a14 (by assumption) | exact MAt.a15 (by assumption) | exact MAt.a16 (by assumption)) (by rfl) (by omega) (by omega) dX8_pathMany_14 ?_
    refine r_callV s_X8_232_v dX8_pathMany_15 (by first | exact MAt.o (by assumption) | exact MAt.a1 (by assumption) | exact MAt.a2 (by assumption) | exact MAt.a3 (by assumption) | exact MAt.a4 (by assumption) | exact MAt.a5 (by assumption) | exact MAt.a6 (by assumption) | exact MAt.a7 (by assumption) | exact MAt.a8 (by assumption) | exact MAt.a9 (by assumption) | exact MAt.a10 (by assumption) | exact MAt.a11 (by assumption) | exact MAt.a12 (by assumption) | exact MAt.a13 (by assumption) | exact MAt.a14 (by assumption) | exact MAt.a15 (by assumption) | exact MAt.a16 (by assumption)) (by rfl) rfl (Nat.le_of_ble_eq_true rfl) (m_count (d := d) hM (pT (wso W) (wn W)) 0 0 0 8 _ hme hwb (by omega) (by omega) (by omega) ?_)
    refine mK_r ?_
    refine r_goto (tgt := 22) dX8_pathMany_18 (by decide) ?_
    refine r_iret rfl (by first | rfl | exact bI_nar _) dX8_pathMany_22 ?_
    exact hq (fun _ => hme)
noncomputable def spPaths (X : XT) : Nat × Int32 := (0, nI (xN X))
theorem m_paths (h : MX B M m X th) (hb : mGb G ≤ m) (hq : ∀ M, MX B M m X (spPaths X).1 → Q (.inl (some (.int (spPaths X).2))) M t u) : mMet G (d + 11) zX8_paths [.ref m] M t u Q := by
  refine m_intro (by decide +kernel) ⟨Nat.le_of_ble_eq_true rfl, Nat.le_of_ble_eq_true rfl⟩ ?_
  show mW G _ _ 0 [some (.ref m)] [] _ _ _ _
  obtain ⟨F, A, hM, hP, hR, h6⟩ := h.un
  first | refine r_aload_n dX8_paths_0 rfl ?_ | refine r_aload_nq dX8_paths_0 rfl ?_ | refine r_aload_nN dX8_paths_0 rfl ?_
  refine r_iconst (v := nI 0) dX8_paths_1 (by decide) ?_
  refine r_putf f_X8_64_7 ft_7_6 (by first | exact MAt.o (by assumption) | exact MAt.a1 (by assumption) | exact MAt.a2 (by assumption) | exact MAt.a3 (by assumption) | exact MAt.a4 (by assumption) | exact MAt.a5 (by assumption) | exact MAt.a6 (by assumption) | exact MAt.a7 (by assumption) | exact MAt.a8 (by assumption) | exact MAt.a9 (by assumption) | exact MAt.a10 (by assumption) | exact MAt.a11 (by assumption) | exact MAt.a12 (by assumption) | exact MAt.a13 (by assumption) | exact MAt.a14 (by assumption) | exact MAt.a15 (by assumption) | exact MAt.a16 (by assumption)) (by omega) (by first | rfl | exact bI_nar _) (by first | rfl | exact bI_fit _) dX8_paths_2 ?_
  refine MAt.p6 (by assumption) (fun M hM => ?_)
  first | refine r_aload_n dX8_paths_5 rfl ?_ | refine r_aload_nq dX8_paths_5 rfl ?_ | refine r_aload_nN dX8_paths_5 rfl ?_
  refine r_callV s_X8_245_v dX8_paths_6 (by first | exact MAt.o (by assumption) | exact MAt.a1 (by assumption) | exact MAt.a2 (by assumption) | exact MAt.a3 (by assumption) | exact MAt.a4 (by assumption) | exact MAt.a5 (by assumption) | exact MAt.a6 (by assumption) | exact MAt.a7 (by assumption) | exact MAt.a8 (by assumption) | exact MAt.a9 (by assumption) | exact MAt.a10 (by assumption) | exact MAt.a11 (by assumption) | exact MAt.a12 (by assumption) | exact MAt.a13 (by assumption) | exact MAt.a14 (by assumption) | exact MAt.a15 (by assumption) | exact MAt.a16 (by assumption)) (by rfl) rfl (Nat.le_of_ble_eq_true rfl) (m_pathMany hM hb hP.1.1 hR (fun M F' A' hM' kF kA hN => ?_))
  refine mK_r ?_
  refine r_iret rfl (by first | rfl | exact bI_nar _) dX8_paths_9 ?_
  have hX : MX B M m X (F' 6) := MX.kp hM' hP hR (MKp.t6.tr (MKp.of kF kA))
  rw [kF 6 (by decide), fU_eq] at hX
  exact hq _ hX
end MOD9
