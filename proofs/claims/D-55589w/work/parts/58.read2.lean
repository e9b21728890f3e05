/-- told clauses stand in a row -/
def tR (f : Nat → Nat) (cl : List (Nat × Nat × Nat)) : Prop := ∀ (i : Nat) (z : Nat × Nat × Nat), cl[i]? = some z → f (3 * i) = z.1 + 1 ∧ (2 ≤ z.1 ∧ z.1 ≤ 6 → f (3 * i + 1) = z.2.1 + 1) ∧ (z.1 = 4 ∨ z.1 = 5 → f (3 * i + 2) = z.2.2 + 1)
theorem tR.push {f f' : Nat → Nat} {cl : List (Nat × Nat × Nat)} {z : Nat × Nat × Nat} (h : tR f cl) (hf : ∀ j, j < 3 * cl.length → f' j = f j) (h1 : f' (3 * cl.length) = z.1 + 1) (h2 : 2 ≤ z.1 ∧ z.1 ≤ 6 → f' (3 * cl.length + 1) = z.2.1 + 1) (h3 : z.1 = 4 ∨ z.1 = 5 → f' (3 * cl.length + 2) = z.2.2 + 1) : tR f' (cl ++ [z]) := by
  intro i y hy
  rcases Nat.lt_trichotomy i cl.length with q | q | q
  · rw [List.getElem?_append_left q] at hy
    rw [hf _ (by omega), hf _ (by omega), hf _ (by omega)]
    exact h i y hy
  · subst q
    rw [List.getElem?_append_right (Nat.le_refl _), Nat.sub_self] at hy
    cases hy
    exact ⟨h1, h2, h3⟩
  · rw [List.getElem?_append_right (by omega), List.getElem?_eq_none (by simp; omega)] at hy
    cases hy
section READ2
variable {G : mG} {y : mY} {d pc : Nat} {L : List (Option Value)} {st : List Value} {B M : mM} {m t u th : Nat} {X : XT} {F : Nat → Nat} {D : Int32} {A : Nat → Nat → Nat} {Q : mQt}
theorem m_reads (h : MAt B M m F D A) (hb : mGb G ≤ m) (tx : Nat → Nat) (n : Nat) (hn : n ≤ 60) (h28 : F 28 = n) (htx : ∀ j, j < n → A 15 j = tx j ∧ tx j < 65536)
   (hE : ∀ e cl, (if n = 0 then (1, []) else rdF tx n n 0) = (e, cl) → 0 < e → ∀ M F' A' v, MAt B M m F' D A' → (∀ i, i ≠ 28 → i ≠ 29 → F' i = F i) → (∀ i, i ≠ 16 → A' i = A i) → F' 28 = 0 → F' 29 = e → Q (.inl (some (.int v))) M t u)
   (hN : ∀ cl, (if n = 0 then (1, []) else rdF tx n n 0) = (0, cl) → ∀ M F' A', MAt B M m F' D A' → (∀ i, i ≠ 28 → i ≠ 29 → F' i = F i) → (∀ i, i ≠ 16 → A' i = A i) → F' 28 = 0 → F' 29 = 0 → tR (A' 16) cl → Q (.inl (some (.int (nI cl.length)))) M t u) : mMet G (d + 5) zX8_reads [.ref m] M t u Q := by
  refine m_intro (by decide +kernel) ⟨Nat.le_of_ble_eq_true rfl, Nat.le_of_ble_eq_true rfl⟩ ?_
  show mW G _ _ 0 [some (.ref m), none, none, none, none, none, none] [] _ _ _ _
  -- the end, when something is wrong
  have bad : ∀ e cl, (if n = 0 then (1, []) else rdF tx n n 0) = (e, cl) → 0 < e → e < 100 → ∀ M F' A' v1 i v3 v4 v5 v6, i < 100 → MAt B M m F' D A' → (∀ i, i ≠ 28 → i ≠ 29 → F' i = F i) → (∀ i, i ≠ 16 → A' i = A i) → F' 28 = n → F' 29 = e → mW G zX8_reads (d + 5) 20 [some (.ref m), some (.int v1), some (.int (nI i)), v3, v4, v5, v6] [] M t u Q := by
    intro e cl he he0 he1 M F' A' v1 i v3 v4 v5 v6 hi hM kF kA k28 k29
    have fin : ∀ L, L = [some (.ref m), some (.int v1), some (.int (nI i)), v3, v4, v5, v6] → mW G zX8_reads (d + 5) 235 L [] M t u Q := by
      intro L hL
      subst hL
      first | refine r_aload_n dX8_reads_235 rfl ?_ | refine r_aload_nq dX8_reads_235 rfl ?_ | refine r_aload_nN dX8_reads_235 rfl ?_
      refine r_iconst (v := nI 0) dX8_reads_236 (by decide) ?_
      refine r_putf f_X8_281_7 ft_7_28 (by first | exact MAt.o (by assumption) | exact MAt.a1 (by assumption) | exact MAt.a2 (by assumption) | exact MAt.a3 (by assumption) | exact MAt.a4 (by assumption) | exact MAt.a5 (by assumption) | exact MAt.a6 (by assumption) | exact MAt.a7 (by assumption) | exact MAt.a8 (by assumption) | exact MAt.a9 (by assumption) | exact MAt.a10 (by assumption) | exact MAt.a11 (by assumption) | exact MAt.a12 (by assumption) | exact MAt.a13 (by assumption) | exact MAt.a14 (by assumption) | exact MAt.a15 (by assumption) | exact MAt.a16 (by assumption)) (by omega) (by first | rfl | exact bI_nar _) (by first | rfl | exact bI_fit _) dX8_reads_237 ?_
      refine MAt.p28 (by assumption) (fun M hM => ?_)
      refine r_iload_n dX8_reads_240 rfl ?_
      refine r_iret rfl (by first | rfl | exact bI_nar _ | exact (pk_charN (by first | assumption | omega)).1) dX8_reads_241 ?_
      exact hE e cl he he0 _ _ _ _ hM (fun i h1 h2 => by rw [fU_ne h1]; exact kF i h1 h2) kA fU_eq (by rw [fU_ne (by decide)]; exact k29)
    refine r_iload_n dX8_reads_20 rfl ?_
    first | refine r_aload_n dX8_reads_21 rfl ?_ | refine r_aload_nq dX8_reads_21 rfl ?_ | refine r_aload_nN dX8_reads_21 rfl ?_
    refine r_getf f_X8_281_7 (by first | exact MAt.o (by assumption) | exact MAt.a1 (by assumption) | exact MAt.a2 (by assumption) | exact MAt.a3 (by assumption) | exact MAt.a4 (by assumption) | exact MAt.a5 (by assumption) | exact MAt.a6 (by assumption) | exact MAt.a7 (by assumption) | exact MAt.a8 (by assumption) | exact MAt.a9 (by assumption) | exact MAt.a10 (by assumption) | exact MAt.a11 (by assumption) | exact MAt.a12 (by assumption) | exact MAt.a13 (by assumption) | exact MAt.a14 (by assumption) | exact MAt.a15 (by assumption) | exact MAt.a16 (by assumption)) (by rfl) dX8_reads_22 ?_
    first | refine r_icmp_ge_n (tgt := 235) dX8_reads_25 (by decide) (by omega) (by omega) (fun h25 => ?_) (fun h25 => ?_) | refine r_icmp_ge (tgt := 235) dX8_reads_25 (by decide) (fun h25 => ?_) (fun h25 => ?_)
    · exact fin _ rfl
    · first | refine r_aload_n dX8_reads_28 rfl ?_ | refine r_aload_nq dX8_reads_28 rfl ?_ | refine r_aload_nN dX8_reads_28 rfl ?_
      refine r_getf f_X8_57_7 (by first | exact MAt.o (by assumption) | exact MAt.a1 (by assumption) | exact MAt.a2 (by assumption) | exact MAt.a3 (by assumption) | exact MAt.a4 (by assumption) | exact MAt.a5 (by assumption) | exact MAt.a6 (by assumption) | exact MAt.a7 (by assumption) | exact MAt.a8 (by assumption) | exact MAt.a9 (by assumption) | exact MAt.a10 (by assumption) | exact MAt.a11 (by assumption) | exact MAt.a12 (by assumption) | exact MAt.a13 (by assumption) | exact MAt.a14 (by assumption) | exact MAt.a15 (by assumption) | exact MAt.a16 (by assumption)) (by rfl) dX8_reads_29 ?_
      first | refine r_if_ge_p (tgt := 235) dX8_reads_32 (by decide) (by omega) (fun h32 => ?_) (fun h32 => by exfalso; omega) | refine r_if_ge_n (tgt := 235) dX8_reads_32 (by decide) (by omega) ?_ | refine r_if_ge (tgt := 235) dX8_reads_32 (by decide) (fun h32 => ?_) (fun h32 => by exfalso; omega)
      exact fin _ rfl
  have loop : ∀ f i (done : List (Nat × Nat × Nat)) M F' A' v3 v4 v5 v6, n - i ≤ f → i ≤ n → done.length ≤ i → 0 < n → (∀ e cl, rdF tx n f i = (e, cl) → rdF tx n n 0 = (e, done ++ cl) ∨ 0 < e ∧ ∃ cl', rdF tx n n 0 = (e, cl')) → MAt B M m F' D A' → (∀ i, i ≠ 28 → i ≠ 29 → F' i = F i) → (∀ i, i ≠ 16 → A' i = A i) → F' 28 = n → F' 29 = 0 → tR (A' 16) done →
      mW G zX8_reads (d + 5) 20 [some (.ref m), some (.int (nI done.length)), some (.int (nI i)), v3, v4, v5, v6] [] M t u Q := by
    intro f
    induction f with
    | zero =>
      intro i done M F' A' v3 v4 v5 v6 hf hi hl hn0 hr hM kF kA k28 k29 ht
      have hi : i = n := by omega
      subst hi
      refine r_iload_n dX8_reads_20 rfl ?_
      first | refine r_aload_n dX8_reads_21 rfl ?_ | refine r_aload_nq dX8_reads_21 rfl ?_ | refine r_aload_nN dX8_reads_21 rfl ?_
      refine r_getf f_X8_281_7 (by first | exact MAt.o (by assumption) | exact MAt.a1 (by assumption) | exact MAt.a2 (by assumption) | exact MAt.a3 (by assumption) | exact MAt.a4 (by assumption) | exact MAt.a5 (by assumption) | exact MAt.a6 (by assumption) | exact MAt.a7 (by assumption) | exact MAt.a8 (by assumption) | exact MAt.a9 (by assumption) | exact MAt.a10 (by assumption) | exact MAt.a11 (by assumption) | exact MAt.a12 (by assumption) | exact MAt.a13 (by assumption) | exact MAt.a14 (by assumption) | exact MAt.a15 (by assumption) | exact MAt.a16 (by assumption)) (by rfl) dX8_reads_22 ?_
      first | refine r_icmp_ge_n (tgt := 235) dX8_reads_25 (by decide) (by omega) (by omega) (fun h25 => ?_) (fun h25 => by exfalso; omega) | refine r_icmp_ge (tgt := 235) dX8_reads_25 (by decide) (fun h25 => ?_) (fun h25 => by exfalso; omega)
      first | refine r_aload_n dX8_reads_235 rfl ?_ | refine r_aload_nq dX8_reads_235 rfl ?_ | refine r_aload_nN dX8_reads_235 rfl ?_
      refine r_iconst (v := nI 0) dX8_reads_236 (by decide) ?_
      refine r_putf f_X8_281_7 ft_7_28 (by first | exact MAt.o (by assumption) | exact MAt.a1 (by assumption) | exact MAt.a2 (by assumption) | exact MAt.a3 (by assumption) | exact MAt.a4 (by assumption) | exact MAt.a5 (by assumption) | exact MAt.a6 (by assumption) | exact MAt.a7 (by assumption) | exact MAt.a8 (by assumption) | exact MAt.a9 (by assumption) | exact MAt.a10 (by assumption) | exact MAt.a11 (by assumption) | exact MAt.a12 (by assumption) | exact MAt.a13 (by assumption) | exact MAt.a14 (by assumption) | exact MAt.a15 (by assumption) | exact MAt.a16 (by assumption)) (by omega) (by first | rfl | exact bI_nar _) (by first | rfl | exact bI_fit _) dX8_reads_237 ?_
      refine MAt.p28 (by assumption) (fun M hM => ?_)
      refine r_iload_n dX8_reads_240 rfl ?_
      refine r_iret rfl (by first | rfl | exact bI_nar _ | exact (pk_charN (by first | assumption | omega)).1) dX8_reads_241 ?_
      rcases hr 0 [] rfl with q | ⟨q, -⟩
      · rw [List.append_nil] at q
        exact hN done (by rw [if_neg (by omega)]; exact q) _ _ _ hM (fun j h1 h2 => by rw [fU_ne h1]; exact kF j h1 h2) kA fU_eq (by rw [fU_ne (by decide)]; exact k29) ht
      · omega
    | succ f ih =>
      intro i done M F' A' v3 v4 v5 v6 hf hi hl hn0 hr hM kF kA k28 k29 ht
      rcases Nat.lt_or_ge i n with hin | hin
      rotate_left
      · have hi : i = n := by omega
        subst hi
        refine r_iload_n dX8_reads_20 rfl ?_
        first | refine r_aload_n dX8_reads_21 rfl ?_ | refine r_aload_nq dX8_reads_21 rfl ?_ | refine r_aload_nN dX8_reads_21 rfl ?_
        refine r_getf f_X8_281_7 (by first | exact MAt.o (by assumption) | exact MAt.a1 (by assumption) | exact MAt.a2 (by assumption) | exact MAt.a3 (by assumption) | exact MAt.a4 (by assumption) | exact MAt.a5 (by assumption) | exact MAt.a6 (by assumption) | exact MAt.a7 (by assumption) | exact MAt.a8 (by assumption) | exact MAt.a9 (by assumption) | exact MAt.a10 (by assumption) | exact MAt.a11 (by assumption) | exact MAt.a12 (by assumption) | exact MAt.a13 (by assumption) | exact MAt.a14 (by assumption) | exact MAt.a15 (by assumption) | exact MAt.a16 (by assumption)) (by rfl) dX8_reads_22 ?_
        first | refine r_icmp_ge_n (tgt := 235) dX8_reads_25 (by decide) (by omega) (by omega) (fun h25 => ?_) (fun h25 => by exfalso; omega) | refine r_icmp_ge (tgt := 235) dX8_reads_25 (by decide) (fun h25 => ?_) (fun h25 => by exfalso; omega)
        first | refine r_aload_n dX8_reads_235 rfl ?_ | refine r_aload_nq dX8_reads_235 rfl ?_ | refine r_aload_nN dX8_reads_235 rfl ?_
        refine r_iconst (v := nI 0) dX8_reads_236 (by decide) ?_
        refine r_putf f_X8_281_7 ft_7_28 (by first | exact MAt.o (by assumption) | exact MAt.a1 (by assumption) | exact MAt.a2 (by assumption) | exact MAt.a3 (by assumption) | exact MAt.a4 (by assumption) | exact MAt.a5 (by assumption) | exact MAt.a6 (by assumption) | exact MAt.a7 (by assumption) | exact MAt.a8 (by assumption) | exact MAt.a9 (by assumption) | exact MAt.a10 (by assumption) | exact MAt.a11 (by assumption) | exact MAt.a12 (by assumption) | exact MAt.a13 (by assumption) | exact MAt.a14 (by assumption) | exact MAt.a15 (by assumption) | exact MAt.a16 (by assumption)) (by omega) (by first | rfl | exact bI_nar _) (by first | rfl | exact bI_fit _) dX8_reads_237 ?_
        refine MAt.p28 (by assumption) (fun M hM => ?_)
        refine r_iload_n dX8_reads_240 rfl ?_
        refine r_iret rfl (by first | rfl | exact bI_nar _ | exact (pk_charN (by first | assumption | omega)).1) dX8_reads_241 ?_
        rcases hr 0 [] (by unfold rdF; rw [if_pos (Nat.le_refl _)]) with q | ⟨q, -⟩
        · rw [List.append_nil] at q
          exact hN done (by rw [if_neg (by omega)]; exact q) _ _ _ hM (fun j h1 h2 => by rw [fU_ne h1]; exact kF j h1 h2) kA fU_eq (by rw [fU_ne (by decide)]; exact k29) ht
        · omega
      have e15 : ∀ j, j < n → A' 15 j = tx j := fun j hj => by rw [kA 15 (by decide)]; exact (htx j hj).1
      have e15i := e15 i hin
      have hsl := sIx_le (tx i)
      have hci := (htx i hin).2
      -- when this clause is wrong
      have wrong : ∀ e cl, rdF tx n (f + 1) i = (e, cl) → 0 < e → ∃ cl', (if n = 0 then (1, []) else rdF tx n n 0) = (e, cl') := by
        intro e cl he he0
        rw [if_neg (by omega)]
        rcases hr e cl he with q | ⟨-, q⟩
        · exact ⟨_, q⟩
        · exact q
      refine r_iload_n dX8_reads_20 rfl ?_
      first | refine r_aload_n dX8_reads_21 rfl ?_ | refine r_aload_nq dX8_reads_21 rfl ?_ | refine r_aload_nN dX8_reads_21 rfl ?_
      refine r_getf f_X8_281_7 (by first | exact MAt.o (by assumption) | exact MAt.a1 (by assumption) | exact MAt.a2 (by assumption) | exact MAt.a3 (by assumption) | exact MAt.a4 (by assumption) | exact MAt.a5 (by assumption) | exact MAt.a6 (by assumption) | exact MAt.a7 (by assumption) | exact MAt.a8 (by assumption) | exact MAt.a9 (by assumption) | exact MAt.a10 (by assumption) | exact MAt.a11 (by assumption) | exact MAt.a12 (by assumption) | exact MAt.a13 (by assumption) | exact MAt.a14 (by assumption) | exact MAt.a15 (by assumption) | exact MAt.a16 (by assumption)) (by rfl) dX8_reads_22 ?_
      first | refine r_icmp_ge_n (tgt := 235) dX8_reads_25 (by decide) (by omega) (by omega) (fun h25 => by exfalso; omega) (fun h25 => ?_) | refine r_icmp_ge (tgt := 235) dX8_reads_25 (by decide) (fun h25 => by exfalso; omega) (fun h25 => ?_)
      first | refine r_aload_n dX8_reads_28 rfl ?_ | refine r_aload_nq dX8_reads_28 rfl ?_ | refine r_aload_nN dX8_reads_28 rfl ?_
      refine r_getf f_X8_57_7 (by first | exact MAt.o (by assumption) | exact MAt.a1 (by assumption) | exact MAt.a2 (by assumption) | exact MAt.a3 (by assumption) | exact MAt.a4 (by assumption) | exact MAt.a5 (by assumption) | exact MAt.a6 (by assumption) | exact MAt.a7 (by assumption) | exact MAt.a8 (by assumption) | exact MAt.a9 (by assumption) | exact MAt.a10 (by assumption) | exact MAt.a11 (by assumption) | exact MAt.a12 (by assumption) | exact MAt.a13 (by assumption) | exact MAt.a14 (by assumption) | exact MAt.a15 (by assumption) | exact MAt.a16 (by assumption)) (by rfl) dX8_reads_29 ?_
      first | refine r_if_ge_p (tgt := 235) dX8_reads_32 (by decide) (by omega) (fun h32 => by exfalso; omega) (fun h32 => ?_) | refine r_if_ge_n (tgt := 235) dX8_reads_32 (by decide) (by omega) ?_ | refine r_if_ge (tgt := 235) dX8_reads_32 (by decide) (fun h32 => by exfalso; omega) (fun h32 => ?_)
      first | refine r_aload_n dX8_reads_35 rfl ?_ | refine r_aload_nq dX8_reads_35 rfl ?_ | refine r_aload_nN dX8_reads_35 rfl ?_
      refine r_getf f_X8_54_7 (by first | exact MAt.o (by assumption) | exact MAt.a1 (by assumption) | exact MAt.a2 (by assumption) | exact MAt.a3 (by assumption) | exact MAt.a4 (by assumption) | exact MAt.a5 (by assumption) | exact MAt.a6 (by assumption) | exact MAt.a7 (by assumption) | exact MAt.a8 (by assumption) | exact MAt.a9 (by assumption) | exact MAt.a10 (by assumption) | exact MAt.a11 (by assumption) | exact MAt.a12 (by assumption) | exact MAt.a13 (by assumption) | exact MAt.a14 (by assumption) | exact MAt.a15 (by assumption) | exact MAt.a16 (by assumption)) (by rfl) dX8_reads_36 ?_
      refine r_iload_n dX8_reads_39 rfl ?_
      refine r_cald_n (by first | exact MAt.o (by assumption) | exact MAt.a1 (by assumption) | exact MAt.a2 (by assumption) | exact MAt.a3 (by assumption) | exact MAt.a4 (by assumption) | exact MAt.a5 (by assumption) | exact MAt.a6 (by assumption) | exact MAt.a7 (by assumption) | exact MAt.a8 (by assumption) | exact MAt.a9 (by assumption) | exact MAt.a10 (by assumption) | exact MAt.a11 (by assumption) | exact MAt.a12 (by assumption) | exact MAt.a13 (by assumption) | exact MAt.a14 (by assumption) | exact MAt.a15 (by assumption) | exact MAt.a16 (by assumption)) (by rfl) (by omega) (by omega) dX8_reads_40 ?_
      rw [e15i]
      refine r_callS s_X8_284_s dX8_reads_41 (by rfl) rfl (Nat.le_of_ble_eq_true rfl) (m_sortOf (tx i) hci ?_)
      refine mK_r ?_
      by_cases hs0 : sIx (tx i) = 0
      · refine r_istore_n dX8_reads_44 (by decide) ?_
        simp only [mst1, mclr]
        refine r_iload_n dX8_reads_45 rfl ?_
        first | refine r_if_ge_p (tgt := 53) dX8_reads_46 (by decide) (by omega) (fun h46 => by exfalso; omega) (fun h46 => ?_) | refine r_if_ge_n (tgt := 53) dX8_reads_46 (by decide) (by omega) ?_ | refine r_if_ge (tgt := 53) dX8_reads_46 (by decide) (fun h46 => by exfalso; omega) (fun h46 => ?_)
        refine r_iconst (v := nI 0) dX8_reads_49 (by decide) ?_
        refine r_goto (tgt := 83) dX8_reads_50 (by decide) ?_
        refine r_istore dX8_reads_83 (by decide) ?_
        simp only [mst1, mclr]
        first | refine r_aload_n dX8_reads_85 rfl ?_ | refine r_aload_nq dX8_reads_85 rfl ?_ | refine r_aload_nN dX8_reads_85 rfl ?_
        refine r_iload_n dX8_reads_86 rfl ?_
        first | refine r_if_ge_p (tgt := 94) dX8_reads_87 (by decide) (by omega) (fun h87 => by exfalso; omega) (fun h87 => ?_) | refine r_if_ge_n (tgt := 94) dX8_reads_87 (by decide) (by omega) ?_ | refine r_if_ge (tgt := 94) dX8_reads_87 (by decide) (fun h87 => by exfalso; omega) (fun h87 => ?_)
        refine r_iload_n dX8_reads_90 rfl ?_
        refine r_goto (tgt := 98) dX8_reads_91 (by decide) ?_
        refine r_putf f_X8_57_7 ft_7_29 (by first | exact MAt.o (by assumption) | exact MAt.a1 (by assumption) | exact MAt.a2 (by assumption) | exact MAt.a3 (by assumption) | exact MAt.a4 (by assumption) | exact MAt.a5 (by assumption) | exact MAt.a6 (by assumption) | exact MAt.a7 (by assumption) | exact MAt.a8 (by assumption) | exact MAt.a9 (by assumption) | exact MAt.a10 (by assumption) | exact MAt.a11 (by assumption) | exact MAt.a12 (by assumption) | exact MAt.a13 (by assumption) | exact MAt.a14 (by assumption) | exact MAt.a15 (by assumption) | exact MAt.a16 (by assumption)) (by omega) (by first | rfl | exact bI_nar _) (by first | rfl | exact bI_fit _) dX8_reads_98 ?_
        refine MAt.p29 (x := i + 1) (by assumption) (fun M hM => ?_)
        first | refine r_aload_n dX8_reads_101 rfl ?_ | refine r_aload_nq dX8_reads_101 rfl ?_ | refine r_aload_nN dX8_reads_101 rfl ?_
        refine r_getf f_X8_61_7 (by first | exact MAt.o (by assumption) | exact MAt.a1 (by assumption) | exact MAt.a2 (by assumption) | exact MAt.a3 (by assumption) | exact MAt.a4 (by assumption) | exact MAt.a5 (by assumption) | exact MAt.a6 (by assumption) | exact MAt.a7 (by assumption) | exact MAt.a8 (by assumption) | exact MAt.a9 (by assumption) | exact MAt.a10 (by assumption) | exact MAt.a11 (by assumption) | exact MAt.a12 (by assumption) | exact MAt.a13 (by assumption) | exact MAt.a14 (by assumption) | exact MAt.a15 (by assumption) | exact MAt.a16 (by assumption)) (by rfl) dX8_reads_102 ?_
        refine r_iconst (v := nI 3) dX8_reads_105 (by decide) ?_
        refine r_iload_n dX8_reads_106 rfl ?_
        first | refine r_imul_n dX8_reads_107 ?_ | refine r_imul dX8_reads_107 ?_
        refine r_iload_n dX8_reads_108 rfl ?_
        refine r_iast_n (by first | exact MAt.o (by assumption) | exact MAt.a1 (by assumption) | exact MAt.a2 (by assumption) | exact MAt.a3 (by assumption) | exact MAt.a4 (by assumption) | exact MAt.a5 (by assumption) | exact MAt.a6 (by assumption) | exact MAt.a7 (by assumption) | exact MAt.a8 (by assumption) | exact MAt.a9 (by assumption) | exact MAt.a10 (by assumption) | exact MAt.a11 (by assumption) | exact MAt.a12 (by assumption) | exact MAt.a13 (by assumption) | exact MAt.a14 (by assumption) | exact MAt.a15 (by assumption) | exact MAt.a16 (by assumption)) (by rfl) (by omega) (by omega) (by omega) dX8_reads_109 ?_
        first | refine MAt.g1 (by assumption) (fun M hM => ?_) | refine MAt.g2 (by assumption) (fun M hM => ?_) | refine MAt.g3 (by assumption) (fun M hM => ?_) | refine MAt.g4 (by assumption) (fun M hM => ?_) | refine MAt.g5 (by assumption) (fun M hM => ?_) | refine MAt.g6 (by assumption) (fun M hM => ?_) | refine MAt.g7 (by assumption) (fun M hM => ?_) | refine MAt.g8 (by assumption) (fun M hM => ?_) | refine MAt.g9 (by assumption) (fun M hM => ?_) | refine MAt.g16 (by assumption) (fun M hM => ?_) | refine MAt.g10 _ (by assumption) ?_ (fun M hM => ?_) | refine MAt.g11 _ (by assumption) ?_ (fun M hM => ?_) | refine MAt.g12 _ (by assumption) ?_ (fun M hM => ?_)
        refine r_iconst (v := nI 1) dX8_reads_110 (by decide) ?_
        refine r_istore dX8_reads_111 (by decide) ?_
        simp only [mst1, mclr]
        refine r_iload dX8_reads_113 rfl ?_
        refine r_iload dX8_reads_115 rfl ?_
        first | refine r_icmp_gt_n (tgt := 222) dX8_reads_117 (by decide) (by omega) (by omega) (fun h117 => ?_) (fun h117 => by exfalso; omega) | refine r_icmp_gt (tgt := 222) dX8_reads_117 (by decide) (fun h117 => ?_) (fun h117 => by exfalso; omega)
        refine r_iload_n dX8_reads_222 rfl ?_
        refine r_iload dX8_reads_223 rfl ?_
        refine r_iconst (v := nI 1) dX8_reads_225 (by decide) ?_
        first | refine r_iadd_n dX8_reads_226 ?_ | refine r_iadd dX8_reads_226 ?_
        first | refine r_iadd_n dX8_reads_227 ?_ | refine r_iadd dX8_reads_227 ?_
        refine r_istore_n dX8_reads_228 (by decide) ?_
        simp only [mst1, mclr]
        first | refine r_iinc_n 1 dX8_reads_229 rfl (by decide) ?_ | refine r_iinc dX8_reads_229 rfl rfl (by decide) ?_
        simp only [mst1, mclr]
        refine r_goto (tgt := 20) dX8_reads_232 (by decide) ?_
        obtain ⟨cl', hcl'⟩ := wrong (i + 1) [] (by unfold rdF; rw [if_neg (by omega), if_pos hs0]) (by omega)
        exact bad (i + 1) cl' hcl' (by omega) (by omega) _ _ _ _ _ _ _ _ _ (by omega) hM (fun j h1 h2 => by rw [fU_ne h2]; exact kF j h1 h2) (fun j hj => by rw [fA_ne hj]; exact kA j hj) (by rw [fU_ne (by decide)]; exact k28) fU_eq
      obtain ⟨s, hs⟩ : ∃ s, sIx (tx i) = s + 1 := ⟨sIx (tx i) - 1, by omega⟩
      rw [show pI (sIx (tx i)) = nI s by rw [hs]; rfl]
      -- behind all digits
      have nx : ∀ dg (z : Nat × Nat × Nat) M F'' A'' v5 v6, MAt B M m F'' D A'' → (∀ i, i ≠ 28 → i ≠ 29 → F'' i = F i) → (∀ i, i ≠ 16 → A'' i = A i) → F'' 28 = n → F'' 29 = 0 → tR (A'' 16) (done ++ [z]) → i + (dg + 1) ≤ n → rdF tx n (f + 1) i = ((rdF tx n f (i + (dg + 1))).1, z :: (rdF tx n f (i + (dg + 1))).2) → mW G zX8_reads (d + 5) 222 [some (.ref m), some (.int (nI done.length)), some (.int (nI i)), some (.int (nI s)), some (.int (nI dg)), v5, v6] [] M t u Q := by
        intro dg z M F'' A'' v5 v6 hM kF kA k28 k29 ht hle hrd
        refine r_iload_n dX8_reads_222 rfl ?_
        refine r_iload dX8_reads_223 rfl ?_
        refine r_iconst (v := nI 1) dX8_reads_225 (by decide) ?_
        first | refine r_iadd_n dX8_reads_226 ?_ | refine r_iadd dX8_reads_226 ?_
        first | refine r_iadd_n dX8_reads_227 ?_ | refine r_iadd dX8_reads_227 ?_
        refine r_istore_n dX8_reads_228 (by decide) ?_
        simp only [mst1, mclr]
        first | refine r_iinc_n 1 dX8_reads_229 rfl (by decide) ?_ | refine r_iinc dX8_reads_229 rfl rfl (by decide) ?_
        simp only [mst1, mclr]
        refine r_goto (tgt := 20) dX8_reads_232 (by decide) ?_
        have e : done.length + 1 = (done ++ [z]).length := by rw [List.length_append]; rfl
        rw [e]
        refine ih (i + (dg + 1)) (done ++ [z]) M F'' A'' _ _ _ _ (by omega) hle (by rw [← e]; omega) hn0 (fun e cl he => ?_) hM kF kA k28 k29 ht
        rw [he] at hrd
        rcases hr e (z :: cl) hrd with q | q
        · exact Or.inl (by rw [q]; simp)
        · exact Or.inr q
      -- a digit that is none
      have none' : ∀ dg k e M F'' A'' v5 v6, 1 ≤ k → k ≤ dg → dg ≤ 2 → (∃ cl, rdF tx n (f + 1) i = (i + k + 1, cl)) → MAt B M m F'' D A'' → (∀ i, i ≠ 28 → i ≠ 29 → F'' i = F i) → (∀ i, i ≠ 16 → A'' i = A i) → F'' 28 = n → F'' 29 = 0 → v5 = some (.int (nI k)) → e = 0 → mW G zX8_reads (d + 5) 161 [some (.ref m), some (.int (nI done.length)), some (.int (nI i)), some (.int (nI s)), some (.int (nI dg)), v5, v6] [] M t u Q := by
        intro dg k e M F'' A'' v5 v6 h1 h2 h3 ⟨cl, hcl⟩ hM kF kA k28 k29 h5 _
        subst h5
        obtain ⟨cl', hcl'⟩ := wrong _ cl hcl (by omega)
        have f29 : fU F'' 29 (i + k + 1) 29 = i + k + 1 := fU_eq
        have fin : ∀ M A'' v5 v6, MAt B M m (fU F'' 29 (i + k + 1)) D A'' → (∀ i, i ≠ 16 → A'' i = A i) → mW G zX8_reads (d + 5) 222 [some (.ref m), some (.int (nI done.length)), some (.int (nI i)), some (.int (nI s)), some (.int (nI dg)), v5, v6] [] M t u Q := by
          intro M A'' v5 v6 hM kA
          refine r_iload_n dX8_reads_222 rfl ?_
          refine r_iload dX8_reads_223 rfl ?_
          refine r_iconst (v := nI 1) dX8_reads_225 (by decide) ?_
          first | refine r_iadd_n dX8_reads_226 ?_ | refine r_iadd dX8_reads_226 ?_
          first | refine r_iadd_n dX8_reads_227 ?_ | refine r_iadd dX8_reads_227 ?_
          refine r_istore_n dX8_reads_228 (by decide) ?_
          simp only [mst1, mclr]
          first | refine r_iinc_n 1 dX8_reads_229 rfl (by decide) ?_ | refine r_iinc dX8_reads_229 rfl rfl (by decide) ?_
          simp only [mst1, mclr]
          refine r_goto (tgt := 20) dX8_reads_232 (by decide) ?_
          exact bad (i + k + 1) cl' hcl' (by omega) (by omega) _ _ _ _ _ _ _ _ _ (by omega) hM (fun j h1 h2 => by rw [fU_ne h2]; exact kF j h1 h2) kA (by rw [fU_ne (by decide)]; exact k28) fU_eq
        refine r_iconst (v := nI 0) dX8_reads_161 (by decide) ?_
        refine r_istore dX8_reads_162 (by decide) ?_
        simp only [mst1, mclr]
        first | refine r_aload_n dX8_reads_164 rfl ?_ | refine r_aload_nq dX8_reads_164 rfl ?_ | refine r_aload_nN dX8_reads_164 rfl ?_
        refine r_iload dX8_reads_165 rfl ?_
        refine r_if_eq_n (tgt := 177) dX8_reads_167 (by decide) (by omega) (fun h167 => ?_) (fun h167 => by exfalso; omega)
        refine r_iload_n dX8_reads_177 rfl ?_
        refine r_iload dX8_reads_178 rfl ?_
        first | refine r_iadd_n dX8_reads_180 ?_ | refine r_iadd dX8_reads_180 ?_
        refine r_putf f_X8_57_7 ft_7_29 (by first | exact MAt.o (by assumption) | exact MAt.a1 (by assumption) | exact MAt.a2 (by assumption) | exact MAt.a3 (by assumption) | exact MAt.a4 (by assumption) | exact MAt.a5 (by assumption) | exact MAt.a6 (by assumption) | exact MAt.a7 (by assumption) | exact MAt.a8 (by assumption) | exact MAt.a9 (by assumption) | exact MAt.a10 (by assumption) | exact MAt.a11 (by assumption) | exact MAt.a12 (by assumption) | exact MAt.a13 (by assumption) | exact MAt.a14 (by assumption) | exact MAt.a15 (by assumption) | exact MAt.a16 (by assumption)) (by omega) (by first | rfl | exact bI_nar _) (by first | rfl | exact bI_fit _) dX8_reads_181 ?_
        refine MAt.p29 (x := i + k + 1) (by assumption) (fun M hM => ?_)
        first | refine r_aload_n dX8_reads_184 rfl ?_ | refine r_aload_nq dX8_reads_184 rfl ?_ | refine r_aload_nN dX8_reads_184 rfl ?_
        refine r_getf f_X8_61_7 (by first | exact MAt.o (by assumption) | exact MAt.a1 (by assumption) | exact MAt.a2 (by assumption) | exact MAt.a3 (by assumption) | exact MAt.a4 (by assumption) | exact MAt.a5 (by assumption) | exact MAt.a6 (by assumption) | exact MAt.a7 (by assumption) | exact MAt.a8 (by assumption) | exact MAt.a9 (by assumption) | exact MAt.a10 (by assumption) | exact MAt.a11 (by assumption) | exact MAt.a12 (by assumption) | exact MAt.a13 (by assumption) | exact MAt.a14 (by assumption) | exact MAt.a15 (by assumption) | exact MAt.a16 (by assumption)) (by rfl) dX8_reads_185 ?_
        refine r_iconst (v := nI 3) dX8_reads_188 (by decide) ?_
        refine r_iload_n dX8_reads_189 rfl ?_
        first | refine r_imul_n dX8_reads_190 ?_ | refine r_imul dX8_reads_190 ?_
        refine r_iload dX8_reads_191 rfl ?_
        first | refine r_iadd_n dX8_reads_193 ?_ | refine r_iadd dX8_reads_193 ?_
        refine r_iload dX8_reads_194 rfl ?_
        refine r_if_eq_n (tgt := 214) dX8_reads_196 (by decide) (by omega) (fun h196 => ?_) (fun h196 => by exfalso; omega)
        refine r_iconst (v := nI 0) dX8_reads_214 (by decide) ?_
        refine r_iast_n (by first | exact MAt.o (by assumption) | exact MAt.a1 (by assumption) | exact MAt.a2 (by assumption) | exact MAt.a3 (by assumption) | exact MAt.a4 (by assumption) | exact MAt.a5 (by assumption) | exact MAt.a6 (by assumption) | exact MAt.a7 (by assumption) | exact MAt.a8 (by assumption) | exact MAt.a9 (by assumption) | exact MAt.a10 (by assumption) | exact MAt.a11 (by assumption) | exact MAt.a12 (by assumption) | exact MAt.a13 (by assumption) | exact MAt.a14 (by assumption) | exact MAt.a15 (by assumption) | exact MAt.a16 (by assumption)) (by rfl) (by omega) (by omega) (by omega) dX8_reads_215 ?_
        refine MAt.g16 (x := 1) (by assumption) (fun M hM => ?_)
        first | refine r_iinc_n 1 dX8_reads_216 rfl (by decide) ?_ | refine r_iinc dX8_reads_216 rfl rfl (by decide) ?_
        simp only [mst1, mclr]
        refine r_goto (tgt := 113) dX8_reads_219 (by decide) ?_
        refine r_iload dX8_reads_113 rfl ?_
        refine r_iload dX8_reads_115 rfl ?_
        first | refine r_icmp_gt_n (tgt := 222) dX8_reads_117 (by decide) (by omega) (by omega) (fun h117 => ?_) (fun h117 => ?_) | refine r_icmp_gt (tgt := 222) dX8_reads_117 (by decide) (fun h117 => ?_) (fun h117 => ?_)
        · exact fin _ _ _ _ hM (fun j hj => by rw [fA_ne hj]; exact kA j hj)
        · first | refine r_aload_n dX8_reads_120 rfl ?_ | refine r_aload_nq dX8_reads_120 rfl ?_ | refine r_aload_nN dX8_reads_120 rfl ?_
          refine r_getf f_X8_57_7 (by first | exact MAt.o (by assumption) | exact MAt.a1 (by assumption) | exact MAt.a2 (by assumption) | exact MAt.a3 (by assumption) | exact MAt.a4 (by assumption) | exact MAt.a5 (by assumption) | exact MAt.a6 (by assumption) | exact MAt.a7 (by assumption) | exact MAt.a8 (by assumption) | exact MAt.a9 (by assumption) | exact MAt.a10 (by assumption) | exact MAt.a11 (by assumption) | exact MAt.a12 (by assumption) | exact MAt.a13 (by assumption) | exact MAt.a14 (by assumption) | exact MAt.a15 (by assumption) | exact MAt.a16 (by assumption)) (by rfl) dX8_reads_121 ?_
          first | refine r_if_ge_p (tgt := 222) dX8_reads_124 (by decide) (by omega) (fun h124 => ?_) (fun h124 => by exfalso; omega) | refine r_if_ge_n (tgt := 222) dX8_reads_124 (by decide) (by omega) ?_ | refine r_if_ge (tgt := 222) dX8_reads_124 (by decide) (fun h124 => ?_) (fun h124 => by exfalso; omega)
          exact fin _ _ _ _ hM (fun j hj => by rw [fA_ne hj]; exact kA j hj)
      have dig : ∀ dg k M F'' A'' v6, 1 ≤ k → k ≤ dg → dg ≤ 2 → MAt B M m F'' D A'' → (∀ i, i ≠ 28 → i ≠ 29 → F'' i = F i) → (∀ i, i ≠ 16 → A'' i = A i) → F'' 28 = n → F'' 29 = 0 → (dgB tx n (i + k) = false → ∃ cl, rdF tx n (f + 1) i = (i + k + 1, cl)) →
          (dgB tx n (i + k) = true → ∀ M A3 v6, MAt B M m F'' D A3 → A3 16 = fU (A'' 16) (3 * done.length + k) (tx (i + k) - 48 + 1) → (∀ i, i ≠ 16 → A3 i = A i) → mW G zX8_reads (d + 5) 113 [some (.ref m), some (.int (nI done.length)), some (.int (nI i)), some (.int (nI s)), some (.int (nI dg)), some (.int (nI (k + 1))), v6] [] M t u Q) →
          mW G zX8_reads (d + 5) 113 [some (.ref m), some (.int (nI done.length)), some (.int (nI i)), some (.int (nI s)), some (.int (nI dg)), some (.int (nI k)), v6] [] M t u Q := by
        intro dg k M F'' A'' v6 h1 h2 h3 hM kF kA k28 k29 hno hyes
        refine r_iload dX8_reads_113 rfl ?_
        refine r_iload dX8_reads_115 rfl ?_
        first | refine r_icmp_gt_n (tgt := 222) dX8_reads_117 (by decide) (by omega) (by omega) (fun h117 => by exfalso; omega) (fun h117 => ?_) | refine r_icmp_gt (tgt := 222) dX8_reads_117 (by decide) (fun h117 => by exfalso; omega) (fun h117 => ?_)
        first | refine r_aload_n dX8_reads_120 rfl ?_ | refine r_aload_nq dX8_reads_120 rfl ?_ | refine r_aload_nN dX8_reads_120 rfl ?_
        refine r_getf f_X8_57_7 (by first | exact MAt.o (by assumption) | exact MAt.a1 (by assumption) | exact MAt.a2 (by assumption) | exact MAt.a3 (by assumption) | exact MAt.a4 (by assumption) | exact MAt.a5 (by assumption) | exact MAt.a6 (by assumption) | exact MAt.a7 (by assumption) | exact MAt.a8 (by assumption) | exact MAt.a9 (by assumption) | exact MAt.a10 (by assumption) | exact MAt.a11 (by assumption) | exact MAt.a12 (by assumption) | exact MAt.a13 (by assumption) | exact MAt.a14 (by assumption) | exact MAt.a15 (by assumption) | exact MAt.a16 (by assumption)) (by rfl) dX8_reads_121 ?_
        first | refine r_if_ge_p (tgt := 222) dX8_reads_124 (by decide) (by omega) (fun h124 => by exfalso; omega) (fun h124 => ?_) | refine r_if_ge_n (tgt := 222) dX8_reads_124 (by decide) (by omega) ?_ | refine r_if_ge (tgt := 222) dX8_reads_124 (by decide) (fun h124 => by exfalso; omega) (fun h124 => ?_)
        refine r_iload_n dX8_reads_127 rfl ?_
        refine r_iload dX8_reads_128 rfl ?_
        first | refine r_iadd_n dX8_reads_130 ?_ | refine r_iadd dX8_reads_130 ?_
        first | refine r_aload_n dX8_reads_131 rfl ?_ | refine r_aload_nq dX8_reads_131 rfl ?_ | refine r_aload_nN dX8_reads_131 rfl ?_
        refine r_getf f_X8_281_7 (by first | exact MAt.o (by assumption) | exact MAt.a1 (by assumption) | exact MAt.a2 (by assumption) | exact MAt.a3 (by assumption) | exact MAt.a4 (by assumption) | exact MAt.a5 (by assumption) | exact MAt.a6 (by assumption) | exact MAt.a7 (by assumption) | exact MAt.a8 (by assumption) | exact MAt.a9 (by assumption) | exact MAt.a10 (by assumption) | exact MAt.a11 (by assumption) | exact MAt.a12 (by assumption) | exact MAt.a13 (by assumption) | exact MAt.a14 (by assumption) | exact MAt.a15 (by assumption) | exact MAt.a16 (by assumption)) (by rfl) dX8_reads_132 ?_
        first | refine r_icmp_ge_n (tgt := 161) dX8_reads_135 (by decide) (by omega) (by omega) (fun h135 => ?_) (fun h135 => ?_) | refine r_icmp_ge (tgt := 161) dX8_reads_135 (by decide) (fun h135 => ?_) (fun h135 => ?_)
        · have hb' : dgB tx n (i + k) = false := decide_eq_false (fun hh => by omega)
          exact none' dg k 0 M F'' A'' _ _ h1 h2 h3 (hno hb') hM kF kA k28 k29 rfl rfl
        have e15k : A'' 15 (i + k) = tx (i + k) := by rw [kA 15 (by decide)]; exact (htx _ (by omega)).1
        have hck := (htx (i + k) (by omega)).2
        first | refine r_aload_n dX8_reads_138 rfl ?_ | refine r_aload_nq dX8_reads_138 rfl ?_ | refine r_aload_nN dX8_reads_138 rfl ?_
        refine r_getf f_X8_54_7 (by first | exact MAt.o (by assumption) | exact MAt.a1 (by assumption) | exact MAt.a2 (by assumption) | exact MAt.a3 (by assumption) | exact MAt.a4 (by assumption) | exact MAt.a5 (by assumption) | exact MAt.a6 (by assumption) | exact MAt.a7 (by assumption) | exact MAt.a8 (by assumption) | exact MAt.a9 (by assumption) | exact MAt.a10 (by assumption) | exact MAt.a11 (by assumption) | exact MAt.a12 (by assumption) | exact MAt.a13 (by assumption) | exact MAt.a14 (by assumption) | exact MAt.a15 (by assumption) | exact MAt.a16 (by assumption)) (by rfl) dX8_reads_139 ?_
        refine r_iload_n dX8_reads_142 rfl ?_
        refine r_iload dX8_reads_143 rfl ?_
        first | refine r_iadd_n dX8_reads_145 ?_ | refine r_iadd dX8_reads_145 ?_
        refine r_cald_n (by first | exact MAt.o (by assumption) | exact MAt.a1 (by assumption) | exact MAt.a2 (by assumption) | exact MAt.a3 (by assumption) | exact MAt.a4 (by assumption) | exact MAt.a5 (by assumption) | exact MAt.a6 (by assumption) | exact MAt.a7 (by assumption) | exact MAt.a8 (by assumption) | exact MAt.a9 (by assumption) | exact MAt.a10 (by assumption) | exact MAt.a11 (by assumption) | exact MAt.a12 (by assumption) | exact MAt.a13 (by assumption) | exact MAt.a14 (by assumption) | exact MAt.a15 (by assumption) | exact MAt.a16 (by assumption)) (by rfl) (by omega) (by omega) dX8_reads_146 ?_
        rw [e15k]
        refine r_bipush (v := nI 48) dX8_reads_147 (by decide) ?_
        refine r_bipush (v := nI 57) dX8_reads_149 (by decide) ?_
        refine r_callS s_X8_82_s dX8_reads_151 (by rfl) rfl (Nat.le_of_ble_eq_true rfl) (m_in _ _ _ (nm_e ?_))
        refine mK_r ?_
        first | refine r_if_eq_b (tgt := 161) dX8_reads_154 (by decide) (fun h154 => ?_) (fun h154 => ?_) | refine r_if_eq_n (tgt := 161) dX8_reads_154 (by decide) (by omega) (fun h154 => ?_) (fun h154 => ?_) | refine r_if_eq (tgt := 161) dX8_reads_154 (by decide) (fun h154 => ?_) (fun h154 => ?_)
        · have hb' : dgB tx n (i + k) = false := by
            have h154 : inR (nI (tx (i + k))) 48 57 = false := h154
            rw [inR_n (by omega) (by decide) (by decide)] at h154
            have := of_decide_eq_false h154
            exact decide_eq_false (fun hh => this hh.2)
          exact none' dg k 0 M F'' A'' _ _ h1 h2 h3 (hno hb') hM kF kA k28 k29 rfl rfl
        have h154 : inR (nI (tx (i + k))) 48 57 = true := h154
        rw [inR_n (by omega) (by decide) (by decide)] at h154
        have h48 := of_decide_eq_true h154
        have hb' : dgB tx n (i + k) = true := decide_eq_true ⟨by omega, h48⟩
        refine r_iconst (v := nI 1) dX8_reads_157 (by decide) ?_
        refine r_goto (tgt := 162) dX8_reads_158 (by decide) ?_
        refine r_istore dX8_reads_162 (by decide) ?_
        simp only [mst1, mclr]
        first | refine r_aload_n dX8_reads_164 rfl ?_ | refine r_aload_nq dX8_reads_164 rfl ?_ | refine r_aload_nN dX8_reads_164 rfl ?_
        refine r_iload dX8_reads_165 rfl ?_
        refine r_if_eq_n (tgt := 177) dX8_reads_167 (by decide) (by omega) (fun h167 => by exfalso; omega) (fun h167 => ?_)
        first | refine r_aload_n dX8_reads_170 rfl ?_ | refine r_aload_nq dX8_reads_170 rfl ?_ | refine r_aload_nN dX8_reads_170 rfl ?_
        refine r_getf f_X8_57_7 (by first | exact MAt.o (by assumption) | exact MAt.a1 (by assumption) | exact MAt.a2 (by assumption) | exact MAt.a3 (by assumption) | exact MAt.a4 (by assumption) | exact MAt.a5 (by assumption) | exact MAt.a6 (by assumption) | exact MAt.a7 (by assumption) | exact MAt.a8 (by assumption) | exact MAt.a9 (by assumption) | exact MAt.a10 (by assumption) | exact MAt.a11 (by assumption) | exact MAt.a12 (by assumption) | exact MAt.a13 (by assumption) | exact MAt.a14 (by assumption) | exact MAt.a15 (by assumption) | exact MAt.a16 (by assumption)) (by rfl) dX8_reads_171 ?_
        refine r_goto (tgt := 181) dX8_reads_174 (by decide) ?_
        refine r_putf f_X8_57_7 ft_7_29 (by first | exact MAt.o (by assumption) | exact MAt.a1 (by assumption) | exact MAt.a2 (by assumption) | exact MAt.a3 (by assumption) | exact MAt.a4 (by assumption) | exact MAt.a5 (by assumption) | exact MAt.a6 (by assumption) | exact MAt.a7 (by assumption) | exact MAt.a8 (by assumption) | exact MAt.a9 (by assumption) | exact MAt.a10 (by assumption) | exact MAt.a11 (by assumption) | exact MAt.a12 (by assumption) | exact MAt.a13 (by assumption) | exact MAt.a14 (by assumption) | exact MAt.a15 (by assumption) | exact MAt.a16 (by assumption)) (by omega) (by first | rfl | exact bI_nar _) (by first | rfl | exact bI_fit _) dX8_reads_181 ?_
        refine MAt.p29 (x := F'' 29) (by assumption) (fun M hM => ?_)
        rw [fU_self] at hM
        first | refine r_aload_n dX8_reads_184 rfl ?_ | refine r_aload_nq dX8_reads_184 rfl ?_ | refine r_aload_nN dX8_reads_184 rfl ?_
        refine r_getf f_X8_61_7 (by first | exact MAt.o (by assumption) | exact MAt.a1 (by assumption) | exact MAt.a2 (by assumption) | exact MAt.a3 (by assumption) | exact MAt.a4 (by assumption) | exact MAt.a5 (by assumption) | exact MAt.a6 (by assumption) | exact MAt.a7 (by assumption) | exact MAt.a8 (by assumption) | exact MAt.a9 (by assumption) | exact MAt.a10 (by assumption) | exact MAt.a11 (by assumption) | exact MAt.a12 (by assumption) | exact MAt.a13 (by assumption) | exact MAt.a14 (by assumption) | exact MAt.a15 (by assumption) | exact MAt.a16 (by assumption)) (by rfl) dX8_reads_185 ?_
        refine r_iconst (v := nI 3) dX8_reads_188 (by decide) ?_
        refine r_iload_n dX8_reads_189 rfl ?_
        first | refine r_imul_n dX8_reads_190 ?_ | refine r_imul dX8_reads_190 ?_
        refine r_iload dX8_reads_191 rfl ?_
        first | refine r_iadd_n dX8_reads_193 ?_ | refine r_iadd dX8_reads_193 ?_
        refine r_iload dX8_reads_194 rfl ?_
        refine r_if_eq_n (tgt := 214) dX8_reads_196 (by decide) (by omega) (fun h196 => by exfalso; omega) (fun h196 => ?_)
        first | refine r_aload_n dX8_reads_199 rfl ?_ | refine r_aload_nq dX8_reads_199 rfl ?_ | refine r_aload_nN dX8_reads_199 rfl ?_
        refine r_getf f_X8_54_7 (by first | exact MAt.o (by assumption) | exact MAt.a1 (by assumption) | exact MAt.a2 (by assumption) | exact MAt.a3 (by assumption) | exact MAt.a4 (by assumption) | exact MAt.a5 (by assumption) | exact MAt.a6 (by assumption) | exact MAt.a7 (by assumption) | exact MAt.a8 (by assumption) | exact MAt.a9 (by assumption) | exact MAt.a10 (by assumption) | exact MAt.a11 (by assumption) | exact MAt.a12 (by assumption) | exact MAt.a13 (by assumption) | exact MAt.a14 (by assumption) | exact MAt.a15 (by assumption) | exact MAt.a16 (by assumption)) (by rfl) dX8_reads_200 ?_
        refine r_iload_n dX8_reads_203 rfl ?_
        refine r_iload dX8_reads_204 rfl ?_
        first | refine r_iadd_n dX8_reads_206 ?_ | refine r_iadd dX8_reads_206 ?_
        refine r_cald_n (by first | exact MAt.o (by assumption) | exact MAt.a1 (by assumption) | exact MAt.a2 (by assumption) | exact MAt.a3 (by assumption) | exact MAt.a4 (by assumption) | exact MAt.a5 (by assumption) | exact MAt.a6 (by assumption) | exact MAt.a7 (by assumption) | exact MAt.a8 (by assumption) | exact MAt.a9 (by assumption) | exact MAt.a10 (by assumption) | exact MAt.a11 (by assumption) | exact MAt.a12 (by assumption) | exact MAt.a13 (by assumption) | exact MAt.a14 (by assumption) | exact MAt.a15 (by assumption) | exact MAt.a16 (by assumption)) (by rfl) (by omega) (by omega) dX8_reads_207 ?_
        rw [e15k]
        refine r_bipush (v := nI 48) dX8_reads_208 (by decide) ?_
        first | refine r_isub_n dX8_reads_210 (by omega) ?_ | refine r_isub dX8_reads_210 ?_
        refine r_goto (tgt := 215) dX8_reads_211 (by decide) ?_
        refine r_iast_n (by first | exact MAt.o (by assumption) | exact MAt.a1 (by assumption) | exact MAt.a2 (by assumption) | exact MAt.a3 (by assumption) | exact MAt.a4 (by assumption) | exact MAt.a5 (by assumption) | exact MAt.a6 (by assumption) | exact MAt.a7 (by assumption) | exact MAt.a8 (by assumption) | exact MAt.a9 (by assumption) | exact MAt.a10 (by assumption) | exact MAt.a11 (by assumption) | exact MAt.a12 (by assumption) | exact MAt.a13 (by assumption) | exact MAt.a14 (by assumption) | exact MAt.a15 (by assumption) | exact MAt.a16 (by assumption)) (by rfl) (by omega) (by omega) (by omega) dX8_reads_215 ?_
        refine MAt.g16 (x := tx (i + k) - 48 + 1) (by assumption) (fun M hM => ?_)
        first | refine r_iinc_n 1 dX8_reads_216 rfl (by decide) ?_ | refine r_iinc dX8_reads_216 rfl rfl (by decide) ?_
        simp only [mst1, mclr]
        refine r_goto (tgt := 113) dX8_reads_219 (by decide) ?_
        exact hyes hb' _ _ _ hM (by rw [fA_eq]) (fun j hj => by rw [fA_ne hj]; exact kA j hj)
      -- the sort is told
      have told : ∀ dg v4 v5 v6, (∀ M A'' v6, MAt B M m F' D A'' → A'' 16 = fU (A' 16) (3 * done.length) (s + 1) → (∀ i, i ≠ 16 → A'' i = A i) → mW G zX8_reads (d + 5) 113 [some (.ref m), some (.int (nI done.length)), some (.int (nI i)), some (.int (nI s)), some (.int (nI dg)), some (.int (nI 1)), v6] [] M t u Q) →
          mW G zX8_reads (d + 5) 83 [some (.ref m), some (.int (nI done.length)), some (.int (nI i)), some (.int (nI s)), v4, v5, v6] [.int (nI dg)] M t u Q := by
        intro dg v4 v5 v6 kk
        refine r_istore dX8_reads_83 (by decide) ?_
        simp only [mst1, mclr]
        first | refine r_aload_n dX8_reads_85 rfl ?_ | refine r_aload_nq dX8_reads_85 rfl ?_ | refine r_aload_nN dX8_reads_85 rfl ?_
        refine r_iload_n dX8_reads_86 rfl ?_
        refine r_if_ge_n (tgt := 94) dX8_reads_87 (by decide) (by omega) ?_
        first | refine r_aload_n dX8_reads_94 rfl ?_ | refine r_aload_nq dX8_reads_94 rfl ?_ | refine r_aload_nN dX8_reads_94 rfl ?_
        refine r_getf f_X8_57_7 (by first | exact MAt.o (by assumption) | exact MAt.a1 (by assumption) | exact MAt.a2 (by assumption) | exact MAt.a3 (by assumption) | exact MAt.a4 (by assumption) | exact MAt.a5 (by assumption) | exact MAt.a6 (by assumption) | exact MAt.a7 (by assumption) | exact MAt.a8 (by assumption) | exact MAt.a9 (by assumption) | exact MAt.a10 (by assumption) | exact MAt.a11 (by assumption) | exact MAt.a12 (by assumption) | exact MAt.a13 (by assumption) | exact MAt.a14 (by assumption) | exact MAt.a15 (by assumption) | exact MAt.a16 (by assumption)) (by rfl) dX8_reads_95 ?_
        refine r_putf f_X8_57_7 ft_7_29 (by first | exact MAt.o (by assumption) | exact MAt.a1 (by assumption) | exact MAt.a2 (by assumption) | exact MAt.a3 (by assumption) | exact MAt.a4 (by assumption) | exact MAt.a5 (by assumption) | exact MAt.a6 (by assumption) | exact MAt.a7 (by assumption) | exact MAt.a8 (by assumption) | exact MAt.a9 (by assumption) | exact MAt.a10 (by assumption) | exact MAt.a11 (by assumption) | exact MAt.a12 (by assumption) | exact MAt.a13 (by assumption) | exact MAt.a14 (by assumption) | exact MAt.a15 (by assumption) | exact MAt.a16 (by assumption)) (by omega) (by first | rfl | exact bI_nar _) (by first | rfl | exact bI_fit _) dX8_reads_98 ?_
        refine MAt.p29 (x := F' 29) (by assumption) (fun M hM => ?_)
        rw [fU_self] at hM
        first | refine r_aload_n dX8_reads_101 rfl ?_ | refine r_aload_nq dX8_reads_101 rfl ?_ | refine r_aload_nN dX8_reads_101 rfl ?_
        refine r_getf f_X8_61_7 (by first | exact MAt.o (by assumption) | exact MAt.a1 (by assumption) | exact MAt.a2 (by assumption) | exact MAt.a3 (by assumption) | exact MAt.a4 (by assumption) | exact MAt.a5 (by assumption) | exact MAt.a6 (by assumption) | exact MAt.a7 (by assumption) | exact MAt.a8 (by assumption) | exact MAt.a9 (by assumption) | exact MAt.a10 (by assumption) | exact MAt.a11 (by assumption) | exact MAt.a12 (by assumption) | exact MAt.a13 (by assumption) | exact MAt.a14 (by assumption) | exact MAt.a15 (by assumption) | exact MAt.a16 (by assumption)) (by rfl) dX8_reads_102 ?_
        refine r_iconst (v := nI 3) dX8_reads_105 (by decide) ?_
        refine r_iload_n dX8_reads_106 rfl ?_
        first | refine r_imul_n dX8_reads_107 ?_ | refine r_imul dX8_reads_107 ?_
        refine r_iload_n dX8_reads_108 rfl ?_
        refine r_iast_n (by first | exact MAt.o (by assumption) | exact MAt.a1 (by assumption) | exact MAt.a2 (by assumption) | exact MAt.a3 (by assumption) | exact MAt.a4 (by assumption) | exact MAt.a5 (by assumption) | exact MAt.a6 (by assumption) | exact MAt.a7 (by assumption) | exact MAt.a8 (by assumption) | exact MAt.a9 (by assumption) | exact MAt.a10 (by assumption) | exact MAt.a11 (by assumption) | exact MAt.a12 (by assumption) | exact MAt.a13 (by assumption) | exact MAt.a14 (by assumption) | exact MAt.a15 (by assumption) | exact MAt.a16 (by assumption)) (by rfl) (by omega) (by omega) (by omega) dX8_reads_109 ?_
        refine MAt.g16 (x := s + 1) (by assumption) (fun M hM => ?_)
        refine r_iconst (v := nI 1) dX8_reads_110 (by decide) ?_
        refine r_istore dX8_reads_111 (by decide) ?_
        simp only [mst1, mclr]
        exact kk _ _ _ hM (by rw [fA_eq]) (fun j hj => by rw [fA_ne hj]; exact kA j hj)
      have le1 : ∀ j, dgB tx n j = true → j < n ∧ 48 ≤ tx j := fun j hj => by have := of_decide_eq_true hj; omega
      have three : ∀ (g : Nat → Nat) (o t' : Nat) (A3 : Nat → Nat), (∀ j, j < 3 * done.length → g j = A' 16 j) → g (3 * done.length) = s + 1 → (2 ≤ s ∧ s ≤ 6 → g (3 * done.length + 1) = o + 1) → (s = 4 ∨ s = 5 → g (3 * done.length + 2) = t' + 1) → tR g (done ++ [(s, o, t')]) :=
        fun g o t' A3 g0 g1 g2 g3 => ht.push g0 g1 g2 g3
      refine r_istore_n dX8_reads_44 (by decide) ?_
      simp only [mst1, mclr]
      refine r_iload_n dX8_reads_45 rfl ?_
      refine r_if_ge_n (tgt := 53) dX8_reads_46 (by decide) (by omega) ?_
      refine r_iload_n dX8_reads_53 rfl ?_
      refine r_callS s_X8_142_s dX8_reads_54 (by rfl) rfl (Nat.le_of_ble_eq_true rfl) (m_isPut s (by omega) (nm_e ?_))
      refine mK_r ?_
      first | refine r_if_eq_b (tgt := 64) dX8_reads_57 (by decide) (fun h57 => ?_) (fun h57 => ?_) | refine r_if_eq_n (tgt := 64) dX8_reads_57 (by decide) (by omega) (fun h57 => ?_) (fun h57 => ?_) | refine r_if_eq (tgt := 64) dX8_reads_57 (by decide) (fun h57 => ?_) (fun h57 => ?_)
      rotate_left
      · have hp := of_decide_eq_true h57
        have hrd : ∀ r, (if dgB tx n (i + 1) = false then (i + 2, []) else if dgB tx n (i + 2) = false then (i + 3, []) else ((rdF tx n f (i + 3)).1, (s, tx (i + 1) - 48, tx (i + 2) - 48) :: (rdF tx n f (i + 3)).2)) = r → rdF tx n (f + 1) i = r := fun r hx => by
          rw [← hx]; show (if _ then _ else _) = _
          rw [if_neg (by omega), if_neg hs0, if_pos (by omega), hs]; rfl
        refine r_iconst (v := nI 2) dX8_reads_60 (by decide) ?_
        refine r_goto (tgt := 83) dX8_reads_61 (by decide) ?_
        refine told 2 _ _ _ (fun M A2 v6 hM2 a16 aO => ?_)
        refine dig 2 1 M F' A2 _ (by decide) (by decide) (by decide) hM2 kF aO k28 k29 (fun hno => ⟨[], hrd _ (if_pos hno)⟩) (fun hy M A3 v6 hM3 b16 bO => ?_)
        refine dig 2 2 M F' A3 _ (by decide) (by decide) (by decide) hM3 kF bO k28 k29 (fun hno => ⟨[], hrd _ (by rw [if_neg (by rw [hy]; decide), if_pos hno])⟩) (fun hy2 M A4 v6 hM4 c16 cO => ?_)
        refine r_iload dX8_reads_113 rfl ?_
        refine r_iload dX8_reads_115 rfl ?_
        first | refine r_icmp_gt_n (tgt := 222) dX8_reads_117 (by decide) (by omega) (by omega) (fun h117 => ?_) (fun h117 => by exfalso; omega) | refine r_icmp_gt (tgt := 222) dX8_reads_117 (by decide) (fun h117 => ?_) (fun h117 => by exfalso; omega)
        have := le1 _ hy2
        refine nx 2 (s, tx (i + 1) - 48, tx (i + 2) - 48) M F' A4 _ _ hM4 kF cO k28 k29 ?_ (by omega) (hrd _ (by rw [if_neg (by rw [hy]; decide), if_neg (by rw [hy2]; decide)]))
        refine three _ _ _ (A' 16) (fun j hj => ?_) ?_ (fun _ => ?_) (fun _ => ?_)
        · rw [c16, fU_ne (by omega), b16, fU_ne (by omega), a16, fU_ne (by omega)]
        · rw [c16, fU_ne (by omega), b16, fU_ne (by omega), a16, fU_eq]
        · rw [c16, fU_ne (by omega), b16, fU_eq]
        · rw [c16, fU_eq]
      have hp := of_decide_eq_false h57
      have one1 : (2 ≤ s ∧ s ≤ 6) → mW G zX8_reads (d + 5) 78 [some (.ref m), some (.int (nI done.length)), some (.int (nI i)), some (.int (nI s)), v4, v5, v6] [] M t u Q := by
        intro h26
        have hrd : ∀ r, (if dgB tx n (i + 1) = false then (i + 2, []) else ((rdF tx n f (i + 2)).1, (s, tx (i + 1) - 48, 0) :: (rdF tx n f (i + 2)).2)) = r → rdF tx n (f + 1) i = r := fun r hx => by
          rw [← hx]; show (if _ then _ else _) = _
          rw [if_neg (by omega), if_neg hs0, if_neg (by omega), if_pos (by omega), hs]; rfl
        refine r_iconst (v := nI 1) dX8_reads_78 (by decide) ?_
        refine r_goto (tgt := 83) dX8_reads_79 (by decide) ?_
        refine told 1 _ _ _ (fun M A2 v6 hM2 a16 aO => ?_)
        refine dig 1 1 M F' A2 _ (by decide) (by decide) (by decide) hM2 kF aO k28 k29 (fun hno => ⟨[], hrd _ (if_pos hno)⟩) (fun hy M A3 v6 hM3 b16 bO => ?_)
        refine r_iload dX8_reads_113 rfl ?_
        refine r_iload dX8_reads_115 rfl ?_
        first | refine r_icmp_gt_n (tgt := 222) dX8_reads_117 (by decide) (by omega) (by omega) (fun h117 => ?_) (fun h117 => by exfalso; omega) | refine r_icmp_gt (tgt := 222) dX8_reads_117 (by decide) (fun h117 => ?_) (fun h117 => by exfalso; omega)
        have := le1 _ hy
        refine nx 1 (s, tx (i + 1) - 48, 0) M F' A3 _ _ hM3 kF bO k28 k29 ?_ (by omega) (hrd _ (by rw [if_neg (by rw [hy]; decide)]))
        refine three _ _ _ (A' 16) (fun j hj => ?_) ?_ (fun _ => ?_) (fun hh => absurd hh hp)
        · rw [b16, fU_ne (by omega), a16, fU_ne (by omega)]
        · rw [b16, fU_ne (by omega), a16, fU_eq]
        · rw [b16, fU_eq]
      refine r_iload_n dX8_reads_64 rfl ?_
      refine r_callS s_X8_136_s dX8_reads_65 (by rfl) rfl (Nat.le_of_ble_eq_true rfl) (m_hasPlough s (by omega) (nm_e ?_))
      refine mK_r ?_
      first | refine r_if_ne_b (tgt := 78) dX8_reads_68 (by decide) (fun h68 => ?_) (fun h68 => ?_) | refine r_if_ne_n (tgt := 78) dX8_reads_68 (by decide) (by omega) (fun h68 => ?_) (fun h68 => ?_) | refine r_if_ne (tgt := 78) dX8_reads_68 (by decide) (fun h68 => ?_) (fun h68 => ?_)
      · have hq1 := of_decide_eq_true h68
        exact one1 (by omega)
      have hq1 := of_decide_eq_false h68
      refine r_iload_n dX8_reads_71 rfl ?_
      refine r_callS s_X8_139_s dX8_reads_72 (by rfl) rfl (Nat.le_of_ble_eq_true rfl) (m_hasGood s (by omega) (nm_e ?_))
      refine mK_r ?_
      first | refine r_if_eq_b (tgt := 82) dX8_reads_75 (by decide) (fun h75 => ?_) (fun h75 => ?_) | refine r_if_eq_n (tgt := 82) dX8_reads_75 (by decide) (by omega) (fun h75 => ?_) (fun h75 => ?_) | refine r_if_eq (tgt := 82) dX8_reads_75 (by decide) (fun h75 => ?_) (fun h75 => ?_)
      rotate_left
      · have hq2 := of_decide_eq_true h75
        exact one1 (by omega)
      have hq2 := of_decide_eq_false h75
      have hrd : rdF tx n (f + 1) i = ((rdF tx n f (i + 1)).1, (s, 0, 0) :: (rdF tx n f (i + 1)).2) := by
        show (if _ then _ else _) = _
        rw [if_neg (by omega), if_neg hs0, if_neg (by omega), if_neg (by omega), hs]; rfl
      refine r_iconst (v := nI 0) dX8_reads_82 (by decide) ?_
      refine told 0 _ _ _ (fun M A2 v6 hM2 a16 aO => ?_)
      refine r_iload dX8_reads_113 rfl ?_
      refine r_iload dX8_reads_115 rfl ?_
      first | refine r_icmp_gt_n (tgt := 222) dX8_reads_117 (by decide) (by omega) (by omega) (fun h117 => ?_) (fun h117 => by exfalso; omega) | refine r_icmp_gt (tgt := 222) dX8_reads_117 (by decide) (fun h117 => ?_) (fun h117 => by exfalso; omega)
      refine nx 0 (s, 0, 0) M F' A2 _ _ hM2 kF aO k28 k29 ?_ (by omega) hrd
      refine three _ _ _ (A' 16) (fun j hj => ?_) ?_ (fun hh => by omega) (fun hh => absurd hh hp)
      · rw [a16, fU_ne (by omega)]
      · rw [a16, fU_eq]
  refine r_iconst (v := nI 0) dX8_reads_0 (by decide) ?_
  refine r_istore_n dX8_reads_1 (by decide) ?_
  simp only [mst1, mclr]
  refine r_iconst (v := nI 0) dX8_reads_2 (by decide) ?_
  refine r_istore_n dX8_reads_3 (by decide) ?_
  simp only [mst1, mclr]
  first | refine r_aload_n dX8_reads_4 rfl ?_ | refine r_aload_nq dX8_reads_4 rfl ?_ | refine r_aload_nN dX8_reads_4 rfl ?_
  first | refine r_aload_n dX8_reads_5 rfl ?_ | refine r_aload_nq dX8_reads_5 rfl ?_ | refine r_aload_nN dX8_reads_5 rfl ?_
  refine r_getf f_X8_281_7 (by first | exact MAt.o (by assumption) | exact MAt.a1 (by assumption) | exact MAt.a2 (by assumption) | exact MAt.a3 (by assumption) | exact MAt.a4 (by assumption) | exact MAt.a5 (by assumption) | exact MAt.a6 (by assumption) | exact MAt.a7 (by assumption) | exact MAt.a8 (by assumption) | exact MAt.a9 (by assumption) | exact MAt.a10 (by assumption) | exact MAt.a11 (by assumption) | exact MAt.a12 (by assumption) | exact MAt.a13 (by assumption) | exact MAt.a14 (by assumption) | exact MAt.a15 (by assumption) | exact MAt.a16 (by assumption)) (by rfl) dX8_reads_6 ?_
  refine r_if_ne_n (tgt := 16) dX8_reads_9 (by decide) (by omega) (fun h9 => ?_) (fun h9 => ?_)
  · refine r_iconst (v := -1) dX8_reads_16 (by decide) ?_
    refine r_putf f_X8_57_7 ft_7_29 (by first | exact MAt.o (by assumption) | exact MAt.a1 (by assumption) | exact MAt.a2 (by assumption) | exact MAt.a3 (by assumption) | exact MAt.a4 (by assumption) | exact MAt.a5 (by assumption) | exact MAt.a6 (by assumption) | exact MAt.a7 (by assumption) | exact MAt.a8 (by assumption) | exact MAt.a9 (by assumption) | exact MAt.a10 (by assumption) | exact MAt.a11 (by assumption) | exact MAt.a12 (by assumption) | exact MAt.a13 (by assumption) | exact MAt.a14 (by assumption) | exact MAt.a15 (by assumption) | exact MAt.a16 (by assumption)) (by omega) (by first | rfl | exact bI_nar _) (by first | rfl | exact bI_fit _) dX8_reads_17 ?_
    refine MAt.p29 (x := 0) (by assumption) (fun M hM => ?_)
    exact loop n 0 [] M _ A _ _ _ _ (by omega) (Nat.zero_le _) (Nat.le_refl _) (by omega) (fun e cl he => Or.inl he) hM (fun j h1 h2 => fU_ne h2) (fun _ _ => rfl) (by rw [fU_ne (by decide)]; exact h28) fU_eq (fun i z hz => by cases hz)
  · refine r_iconst (v := nI 0) dX8_reads_12 (by decide) ?_
    refine r_goto (tgt := 17) dX8_reads_13 (by decide) ?_
    refine r_putf f_X8_57_7 ft_7_29 (by first | exact MAt.o (by assumption) | exact MAt.a1 (by assumption) | exact MAt.a2 (by assumption) | exact MAt.a3 (by assumption) | exact MAt.a4 (by assumption) | exact MAt.a5 (by assumption) | exact MAt.a6 (by assumption) | exact MAt.a7 (by assumption) | exact MAt.a8 (by assumption) | exact MAt.a9 (by assumption) | exact MAt.a10 (by assumption) | exact MAt.a11 (by assumption) | exact MAt.a12 (by assumption) | exact MAt.a13 (by assumption) | exact MAt.a14 (by assumption) | exact MAt.a15 (by assumption) | exact MAt.a16 (by assumption)) (by omega) (by first | rfl | exact bI_nar _) (by first | rfl | exact bI_fit _) dX8_reads_17 ?_
    refine MAt.p29 (x := 1) (by assumption) (fun M hM => ?_)
    exact bad 1 [] (if_pos (by omega)) (by decide) (by decide) _ _ _ _ 0 _ _ _ _ (by decide) hM (fun j h1 h2 => fU_ne h2) (fun _ _ => rfl) (by rw [fU_ne (by decide)]; exact h28) fU_eq
end READ2
