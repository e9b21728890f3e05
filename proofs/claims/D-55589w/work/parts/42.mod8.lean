/-! ===== the model: nesting, and how many paths ===== -/
section MOD8
variable {G : mG} {d : Nat} {B M : mM} {m t u th : Nat} {X : XT} {F : Nat → Nat} {D : Int32} {A : Nat → Nat → Nat} {Q : mQt}
theorem j_max (a b : Nat) (ha : a < 2147483648) (hb : b < 2147483648) (hq : Q (.inl (some (.int (nI (max a b))))) M t u) : mMet G d zJ11_max [.int (nI a), .int (nI b)] M t u Q := by
  refine m_introF (by decide +kernel) ⟨Nat.le_of_ble_eq_true rfl, Nat.le_of_ble_eq_true rfl⟩ ?_
  show mW G _ _ 0 [some (.int (nI a)), some (.int (nI b))] [] _ _ _ _
  refine r_iload_n dJ11_max_0 rfl ?_
  refine r_iload_n dJ11_max_1 rfl ?_
  first | refine r_icmp_lt_n (tgt := 9) dJ11_max_2 (by decide) (by omega) (by omega) (fun h2 => ?_) (fun h2 => ?_) | refine r_icmp_lt (tgt := 9) dJ11_max_2 (by decide) (fun h2 => ?_) (fun h2 => ?_)
  · refine r_iload_n dJ11_max_9 rfl ?_
    refine r_iret rfl (by first | rfl | exact bI_nar _) dJ11_max_10 ?_
    rw [Nat.max_eq_right (by omega)] at hq; exact hq
  · refine r_iload_n dJ11_max_5 rfl ?_
    refine r_goto (tgt := 10) dJ11_max_6 (by decide) ?_
    refine r_iret rfl (by first | rfl | exact bI_nar _) dJ11_max_10 ?_
    rw [Nat.max_eq_left (by omega)] at hq; exact hq
theorem j_min (a b : Nat) (ha : a < 2147483648) (hb : b < 2147483648) (hq : Q (.inl (some (.int (nI (min a b))))) M t u) : mMet G d zJ11_min [.int (nI a), .int (nI b)] M t u Q := by
  refine m_introF (by decide +kernel) ⟨Nat.le_of_ble_eq_true rfl, Nat.le_of_ble_eq_true rfl⟩ ?_
  show mW G _ _ 0 [some (.int (nI a)), some (.int (nI b))] [] _ _ _ _
  refine r_iload_n dJ11_min_0 rfl ?_
  refine r_iload_n dJ11_min_1 rfl ?_
  first | refine r_icmp_gt_n (tgt := 9) dJ11_min_2 (by decide) (by omega) (by omega) (fun h2 => ?_) (fun h2 => ?_) | refine r_icmp_gt (tgt := 9) dJ11_min_2 (by decide) (fun h2 => ?_) (fun h2 => ?_)
  · refine r_iload_n dJ11_min_9 rfl ?_
    refine r_iret rfl (by first | rfl | exact bI_nar _) dJ11_min_10 ?_
    rw [Nat.min_eq_right (by omega)] at hq; exact hq
  · refine r_iload_n dJ11_min_5 rfl ?_
    refine r_goto (tgt := 10) dJ11_min_6 (by decide) ?_
    refine r_iret rfl (by first | rfl | exact bI_nar _) dJ11_min_10 ?_
    rw [Nat.min_eq_left (by omega)] at hq; exact hq
theorem fU_self (f : Nat → Nat) (k : Nat) : fU f k (f k) = f := by
  funext j; unfold fU; split
  · rename_i h; rw [h]
  · rfl
theorem stk_ge {f g : Nat → Nat} {st : List (Nat × Nat)} {k v w : Nat} (hk : st.length ≤ k) (h : stk f g st) : stk (fU f k v) (fU g k w) st :=
  stk_up (fun j hj => ⟨fU_ne (by omega), fU_ne (by omega)⟩) h
theorem dpM_one {so : Nat → Nat} {n v : Nat} (h : nsDep so (n + 1) = v) : dpM so (n + 1) = max (dpM so n) v := by show max _ _ = _; rw [h]
theorem dpM_le {so : Nat → Nat} {n v : Nat} (h : nsDep so (n + 1) = v) (hv : v ≤ nsDep so n) : dpM so (n + 1) = dpM so n := by rw [dpM_one h]; exact Nat.max_eq_left (Nat.le_trans hv (nsDep_le so n))
theorem m_nests (h : MAt B M m F D A) (hb : mGb G ≤ m) (hn : A 1 1 ≤ 24) (so : Nat → Nat) (hso' : ∀ k, k < A 1 1 → so k = A 1 (37 + 3 * k)) (hso : ∀ k, k < A 1 1 → so k < 10)
   (hq : ∀ M F' A', MAt B M m F' D A' → (∀ k, k ≠ 14 → F' k = F k) → (∀ i, (i < 5 ∨ 9 < i) → A' i = A i) → (nestB so (A 1 1) = true → (∀ k, k < A 1 1 → A' 7 k = arD so k) ∧ F' 14 = dpM so (A 1 1) ∧ ∃ mi ei, nsRun so 0 (nsI mi ei) (A 1 1) = some ([], A' 8, A' 9)) → Q (.inl (some (.int (bI (nestB so (A 1 1)))))) M t u) : mMet G (d + 1) zX8_nests [.ref m] M t u Q := by
  refine m_intro (by decide +kernel) ⟨Nat.le_of_ble_eq_true rfl, Nat.le_of_ble_eq_true rfl⟩ ?_
  show mW G _ _ 0 [some (.ref m), none, none, none, none] [] _ _ _ _
  have no : ∀ (M : mM) (F' : Nat → Nat) (A' : Nat → Nat → Nat) (k : Nat) (L : List (Option Value)), k ≤ A 1 1 → nsRun so 0 (nsI (A 8) (A 9)) k = none → MAt B M m F' D A' → (∀ k, k ≠ 14 → F' k = F k) → (∀ i, (i < 5 ∨ 9 < i) → A' i = A i) → mW G zX8_nests (d + 1) 70 L [] M t u Q := by
    intro M F' A' k L hk hr hM kF kA
    have e := nestB_no hr hk
    refine r_iconst (v := nI 0) dX8_nests_70 (by decide) ?_
    refine r_iret rfl (by first | rfl | exact bI_nar _) dX8_nests_71 ?_
    have := hq M F' A' hM kF kA (fun h => by rw [e] at h; cases h)
    rw [e] at this
    exact this
  have loop : ∀ n i M F' A' st v3 v4, i + n = A 1 1 → MAt B M m F' D A' → (∀ k, k ≠ 14 → F' k = F k) → (∀ i, (i < 5 ∨ 9 < i) → A' i = A i) → nsRun so 0 (nsI (A 8) (A 9)) i = some (st, A' 8, A' 9) → stk (A' 5) (A' 6) st → (∀ k, k < i → A' 7 k = arD so k) → F' 14 = dpM so i → F' 14 ≤ i → mW G zX8_nests (d + 1) 9 [some (.ref m), some (.int (nI st.length)), some (.int (nI i)), v3, v4] [] M t u Q := by
    intro n
    induction n with
    | zero =>
      intro i M F' A' st v3 v4 hi hM kF kA hr hs h7 h14 h14b
      have e1 : A' 1 = A 1 := kA 1 (by decide)
      have e11 : A' 1 1 = A 1 1 := by rw [e1]
      have hi : i = A 1 1 := by omega
      subst hi
      have eB := nestB_of hr
      have hl := (stOk_run hr).1
      have hl : st.length ≤ A 1 1 := hl
      refine r_iload_n dX8_nests_9 rfl ?_
      first | refine r_aload_n dX8_nests_10 rfl ?_ | refine r_aload_nq dX8_nests_10 rfl ?_ | refine r_aload_nN dX8_nests_10 rfl ?_
      refine r_getf f_X8_9_7 (by first | exact MAt.o (by assumption) | exact MAt.a1 (by assumption) | exact MAt.a2 (by assumption) | exact MAt.a3 (by assumption) | exact MAt.a4 (by assumption) | exact MAt.a5 (by assumption) | exact MAt.a6 (by assumption) | exact MAt.a7 (by assumption) | exact MAt.a8 (by assumption) | exact MAt.a9 (by assumption) | exact MAt.a10 (by assumption) | exact MAt.a11 (by assumption) | exact MAt.a12 (by assumption) | exact MAt.a13 (by assumption) | exact MAt.a14 (by assumption) | exact MAt.a15 (by assumption) | exact MAt.a16 (by assumption)) (by rfl) dX8_nests_11 ?_
      refine r_iconst (v := nI 1) dX8_nests_14 (by decide) ?_
      refine r_iald_n (by first | exact MAt.o (by assumption) | exact MAt.a1 (by assumption) | exact MAt.a2 (by assumption) | exact MAt.a3 (by assumption) | exact MAt.a4 (by assumption) | exact MAt.a5 (by assumption) | exact MAt.a6 (by assumption) | exact MAt.a7 (by assumption) | exact MAt.a8 (by assumption) | exact MAt.a9 (by assumption) | exact MAt.a10 (by assumption) | exact MAt.a11 (by assumption) | exact MAt.a12 (by assumption) | exact MAt.a13 (by assumption) | exact MAt.a14 (by assumption) | exact MAt.a15 (by assumption) | exact MAt.a16 (by assumption)) (by rfl) (by omega) (by omega) dX8_nests_15 ?_
      first | refine r_icmp_ge_n (tgt := 217) dX8_nests_16 (by decide) (by omega) (by omega) (fun h16 => ?_) (fun h16 => by exfalso; omega) | refine r_icmp_ge (tgt := 217) dX8_nests_16 (by decide) (fun h16 => ?_) (fun h16 => by exfalso; omega)
      refine r_iload_n dX8_nests_217 rfl ?_
      refine r_if_ne_n (tgt := 225) dX8_nests_218 (by decide) (by omega) (fun h218 => ?_) (fun h218 => ?_)
      · have e : st.isEmpty = false := by cases st; simp at h218; rfl
        refine r_iconst (v := nI 0) dX8_nests_225 (by decide) ?_
        refine r_iret rfl (by first | rfl | exact bI_nar _) dX8_nests_226 ?_
        have := hq M F' A' hM kF kA (fun h => by rw [eB] at h; rw [show (st, A' 8, A' 9).1.isEmpty = st.isEmpty from rfl, e] at h; cases h)
        rw [eB, show (st, A' 8, A' 9).1.isEmpty = st.isEmpty from rfl, e] at this
        exact this
      · have e : st = [] := List.length_eq_zero_iff.mp h218
        subst e
        refine r_iconst (v := nI 1) dX8_nests_221 (by decide) ?_
        refine r_goto (tgt := 226) dX8_nests_222 (by decide) ?_
        refine r_iret rfl (by first | rfl | exact bI_nar _) dX8_nests_226 ?_
        have := hq M F' A' hM kF kA (fun _ => ⟨h7, h14, _, _, hr⟩)
        rw [eB] at this
        exact this
    | succ n ih =>
      intro i M F' A' st v3 v4 hi hM kF kA hr hs h7 h14 h14b
      have e1 : A' 1 = A 1 := kA 1 (by decide)
      have e11 : A' 1 1 = A 1 1 := by rw [e1]
      have es : A' 1 (37 + 3 * i) = so i := by rw [e1, hso' i (by omega)]
      have s10 := hso i (by omega)
      have hstep : nsRun so 0 (nsI (A 8) (A 9)) (i + 1) = nsStep i (so i) (st, A' 8, A' 9) := by
        show (nsRun so 0 (nsI (A 8) (A 9)) i).bind _ = _
        rw [hr, Nat.zero_add]; rfl
      obtain ⟨ho1, ho2⟩ := stOk_run hr
      have ho1 : st.length ≤ i := ho1
      have eD : nsDep so i = st.length := nsDep_of hr
      have nxt : ∀ (M : mM) (F'' : Nat → Nat) (A'' : Nat → Nat → Nat) (st' : List (Nat × Nat)) v4, MAt B M m F'' D A'' → (∀ k, k ≠ 14 → F'' k = F' k) → (∀ i, (i < 5 ∨ 9 < i) → A'' i = A' i) → nsStep i (so i) (st, A' 8, A' 9) = some (st', A'' 8, A'' 9) → stk (A'' 5) (A'' 6) st' →
          A'' 7 = fU (A' 7) i (arD so i) → (F'' 14 = max (dpM so i) st'.length ∨ F'' 14 = dpM so i ∧ st'.length ≤ st.length) → mW G zX8_nests (d + 1) 211 [some (.ref m), some (.int (nI st'.length)), some (.int (nI i)), some (.int (nI (so i))), v4] [] M t u Q := by
        intro M F'' A'' st' v4 hM kF' kA' hst hs' h7' h14'
        first | refine r_iinc_n 1 dX8_nests_211 rfl (by decide) ?_ | refine r_iinc dX8_nests_211 rfl rfl (by decide) ?_
        simp only [mst1, mclr]
        refine r_goto (tgt := 9) dX8_nests_214 (by decide) ?_
        have e : nsDep so (i + 1) = st'.length := nsDep_of (hstep.trans hst)
        have hl' : st'.length ≤ i + 1 := (stOk_run (hstep.trans hst)).1
        have h14'' : F'' 14 = dpM so (i + 1) := by
          rcases h14' with h | ⟨h, h'⟩
          · rw [h, dpM_one e]
          · rw [h, dpM_le e (by omega)]
        refine ih (i + 1) M F'' A'' st' _ _ (by omega) hM (fun k hk => (kF' k hk).trans (kF k hk)) (fun i hi => (kA' i hi).trans (kA i hi)) (hstep.trans hst) hs' (fun k hk => ?_) h14'' ?_
        · rw [h7']
          rcases Nat.lt_or_ge k i with h | h
          · rw [fU_ne (by omega)]; exact h7 k h
          · rw [show k = i by omega, fU_eq]
        · rcases h14' with h | ⟨h, h'⟩
          · rw [h]; have := Nat.max_le.mpr ⟨(show dpM so i ≤ i + 1 by omega), hl'⟩; exact this
          · omega
      -- a clause that ends something
      have ends : isEn (so i) = true → mW G zX8_nests (d + 1) 42 [some (.ref m), some (.int (nI st.length)), some (.int (nI i)), some (.int (nI (so i))), v4] [] M t u Q := by
        intro hE
        have hE3 := of_decide_eq_true hE
        cases st with
        | nil =>
          have hno : nsStep i (so i) ([], A' 8, A' 9) = none := by unfold nsStep; rw [if_pos hE]
          refine r_iconst (v := nI 1) dX8_nests_42 (by decide) ?_
          refine r_goto (tgt := 47) dX8_nests_43 (by decide) ?_
          refine r_istore dX8_nests_47 (by decide) ?_
          simp only [mst1, mclr]
          refine r_iload dX8_nests_49 rfl ?_
          refine r_if_eq_n (tgt := 72) dX8_nests_51 (by decide) (by omega) (fun h51 => by exfalso; omega) (fun h51 => ?_)
          refine r_iload_n dX8_nests_54 rfl ?_
          refine r_if_eq_n (tgt := 70) dX8_nests_55 (by decide) (by omega) (fun h55 => ?_) (fun h55 => absurd h55 (by decide))
          exact no M F' A' (i + 1) _ (by omega) (hstep.trans hno) hM kF kA
        | cons z r =>
          obtain ⟨e, b⟩ := z
          obtain ⟨hs1, hs2, hs3⟩ := hs
          simp only [List.length_cons] at *
          have hzb := ho2 (e, b) List.mem_cons_self
          have hzb1 : b < i := hzb.2
          have hze : e = 1 ∨ e = 8 ∨ e = 9 := hzb.1
          have eAr : arD so i = r.length := by unfold arD; rw [if_pos hE, eD]; omega
          have hx : A' 5 (r.length + 1 - 1) = e := hs1
          refine r_iconst (v := nI 1) dX8_nests_42 (by decide) ?_
          refine r_goto (tgt := 47) dX8_nests_43 (by decide) ?_
          refine r_istore dX8_nests_47 (by decide) ?_
          simp only [mst1, mclr]
          refine r_iload dX8_nests_49 rfl ?_
          refine r_if_eq_n (tgt := 72) dX8_nests_51 (by decide) (by omega) (fun h51 => by exfalso; omega) (fun h51 => ?_)
          refine r_iload_n dX8_nests_54 rfl ?_
          refine r_if_eq_n (tgt := 70) dX8_nests_55 (by decide) (by omega) (fun h55 => by exfalso; omega) (fun h55 => ?_)
          first | refine r_aload_n dX8_nests_58 rfl ?_ | refine r_aload_nq dX8_nests_58 rfl ?_ | refine r_aload_nN dX8_nests_58 rfl ?_
          refine r_getf f_X8_22_7 (by first | exact MAt.o (by assumption) | exact MAt.a1 (by assumption) | exact MAt.a2 (by assumption) | exact MAt.a3 (by assumption) | exact MAt.a4 (by assumption) | exact MAt.a5 (by assumption) | exact MAt.a6 (by assumption) | exact MAt.a7 (by assumption) | exact MAt.a8 (by assumption) | exact MAt.a9 (by assumption) | exact MAt.a10 (by assumption) | exact MAt.a11 (by assumption) | exact MAt.a12 (by assumption) | exact MAt.a13 (by assumption) | exact MAt.a14 (by assumption) | exact MAt.a15 (by assumption) | exact MAt.a16 (by assumption)) (by rfl) dX8_nests_59 ?_
          refine r_iload_n dX8_nests_62 rfl ?_
          refine r_iconst (v := nI 1) dX8_nests_63 (by decide) ?_
          first | refine r_isub_n dX8_nests_64 (by omega) ?_ | refine r_isub dX8_nests_64 ?_
          refine r_iald_n (by first | exact MAt.o (by assumption) | exact MAt.a1 (by assumption) | exact MAt.a2 (by assumption) | exact MAt.a3 (by assumption) | exact MAt.a4 (by assumption) | exact MAt.a5 (by assumption) | exact MAt.a6 (by assumption) | exact MAt.a7 (by assumption) | exact MAt.a8 (by assumption) | exact MAt.a9 (by assumption) | exact MAt.a10 (by assumption) | exact MAt.a11 (by assumption) | exact MAt.a12 (by assumption) | exact MAt.a13 (by assumption) | exact MAt.a14 (by assumption) | exact MAt.a15 (by assumption) | exact MAt.a16 (by assumption)) (by rfl) (by omega) (by omega) dX8_nests_65 ?_
          refine r_iload_n dX8_nests_66 rfl ?_
          first | refine r_icmp_eq_n (tgt := 72) dX8_nests_67 (by decide) (by omega) (by omega) (fun h67 => ?_) (fun h67 => ?_) | refine r_icmp_eq_pn (tgt := 72) dX8_nests_67 (by decide) (by omega) (by omega) (fun h67 => ?_) (fun h67 => ?_) | refine r_icmp_eq_pm (tgt := 72) dX8_nests_67 (by decide) (by omega) (fun h67 => ?_) (fun h67 => ?_) | refine r_icmp_eq (tgt := 72) dX8_nests_67 (by decide) (fun h67 => ?_) (fun h67 => ?_)
          rotate_left
          · have hno : nsStep i (so i) ((e, b) :: r, A' 8, A' 9) = none := by
              unfold nsStep; rw [if_pos hE]; show (if e ≠ so i then none else _) = none
              rw [if_pos (by omega)]
            exact no M F' A' (i + 1) _ (by omega) (hstep.trans hno) hM kF kA
          have hes : e = so i := by omega
          rw [show r.length + 1 - 1 = r.length by omega] at *
          refine r_iload_n dX8_nests_72 rfl ?_
          refine r_iload dX8_nests_73 rfl ?_
          refine r_if_eq_n (tgt := 82) dX8_nests_75 (by decide) (by omega) (fun h75 => by exfalso; omega) (fun h75 => ?_)
          refine r_iconst (v := nI 1) dX8_nests_78 (by decide) ?_
          refine r_goto (tgt := 83) dX8_nests_79 (by decide) ?_
          first | refine r_isub_n dX8_nests_83 (by omega) ?_ | refine r_isub dX8_nests_83 ?_
          refine r_istore_n dX8_nests_84 (by decide) ?_
          simp only [mst1, mclr]
          first | refine r_aload_n dX8_nests_85 rfl ?_ | refine r_aload_nq dX8_nests_85 rfl ?_ | refine r_aload_nN dX8_nests_85 rfl ?_
          refine r_getf f_X8_28_7 (by first | exact MAt.o (by assumption) | exact MAt.a1 (by assumption) | exact MAt.a2 (by assumption) | exact MAt.a3 (by assumption) | exact MAt.a4 (by assumption) | exact MAt.a5 (by assumption) | exact MAt.a6 (by assumption) | exact MAt.a7 (by assumption) | exact MAt.a8 (by assumption) | exact MAt.a9 (by assumption) | exact MAt.a10 (by assumption) | exact MAt.a11 (by assumption) | exact MAt.a12 (by assumption) | exact MAt.a13 (by assumption) | exact MAt.a14 (by assumption) | exact MAt.a15 (by assumption) | exact MAt.a16 (by assumption)) (by rfl) dX8_nests_86 ?_
          refine r_iload_n dX8_nests_89 rfl ?_
          refine r_iload_n dX8_nests_90 rfl ?_
          refine r_iast_n (by first | exact MAt.o (by assumption) | exact MAt.a1 (by assumption) | exact MAt.a2 (by assumption) | exact MAt.a3 (by assumption) | exact MAt.a4 (by assumption) | exact MAt.a5 (by assumption) | exact MAt.a6 (by assumption) | exact MAt.a7 (by assumption) | exact MAt.a8 (by assumption) | exact MAt.a9 (by assumption) | exact MAt.a10 (by assumption) | exact MAt.a11 (by assumption) | exact MAt.a12 (by assumption) | exact MAt.a13 (by assumption) | exact MAt.a14 (by assumption) | exact MAt.a15 (by assumption) | exact MAt.a16 (by assumption)) (by rfl) (by omega) (by omega) (by omega) dX8_nests_91 ?_
          first | refine MAt.g1 (by assumption) (fun M hM => ?_) | refine MAt.g2 (by assumption) (fun M hM => ?_) | refine MAt.g3 (by assumption) (fun M hM => ?_) | refine MAt.g4 (by assumption) (fun M hM => ?_) | refine MAt.g5 (by assumption) (fun M hM => ?_) | refine MAt.g6 (by assumption) (fun M hM => ?_) | refine MAt.g7 (by assumption) (fun M hM => ?_) | refine MAt.g8 (by assumption) (fun M hM => ?_) | refine MAt.g9 (by assumption) (fun M hM => ?_) | refine MAt.g16 (by assumption) (fun M hM => ?_) | refine MAt.g10 _ (by assumption) ?_ (fun M hM => ?_) | refine MAt.g11 _ (by assumption) ?_ (fun M hM => ?_) | refine MAt.g12 _ (by assumption) ?_ (fun M hM => ?_)
          rw [show r.length + 1 - 1 = r.length by omega] at *
          obtain ⟨A1, hA1, hM⟩ : ∃ A1 : Nat → Nat → Nat, A1 = fA A' 7 (fU (A' 7) i r.length) ∧ MAt B M m F' D A1 := ⟨_, rfl, hM⟩
          have q7 : A1 7 = fU (A' 7) i (arD so i) := by rw [hA1, eAr]; rfl
          have qo : ∀ j, j ≠ 7 → A1 j = A' j := fun j hj => by rw [hA1]; exact fA_ne hj
          have q5 := qo 5 (by decide); have q6 := qo 6 (by decide); have q8 := qo 8 (by decide); have q9 := qo 9 (by decide)
          have hb6 : A1 6 r.length = b := by rw [q6]; exact hs2
          rcases hE3 with h1 | h8 | h9
          · refine r_iload_n dX8_nests_92 rfl ?_
            refine r_bipush (v := nI 8) dX8_nests_93 (by decide) ?_
            first | refine r_icmp_ne_n (tgt := 113) dX8_nests_95 (by decide) (by omega) (by omega) (fun h95 => ?_) (fun h95 => by exfalso; omega) | refine r_icmp_ne_pn (tgt := 113) dX8_nests_95 (by decide) (by omega) (by omega) (fun h95 => ?_) (fun h95 => by exfalso; omega) | refine r_icmp_ne_pm (tgt := 113) dX8_nests_95 (by decide) (by omega) (fun h95 => ?_) (fun h95 => by exfalso; omega) | refine r_icmp_ne (tgt := 113) dX8_nests_95 (by decide) (fun h95 => ?_) (fun h95 => by exfalso; omega)
            refine r_iload_n dX8_nests_113 rfl ?_
            refine r_bipush (v := nI 9) dX8_nests_114 (by decide) ?_
            first | refine r_icmp_ne_n (tgt := 131) dX8_nests_116 (by decide) (by omega) (by omega) (fun h116 => ?_) (fun h116 => by exfalso; omega) | refine r_icmp_ne_pn (tgt := 131) dX8_nests_116 (by decide) (by omega) (by omega) (fun h116 => ?_) (fun h116 => by exfalso; omega) | refine r_icmp_ne_pm (tgt := 131) dX8_nests_116 (by decide) (by omega) (fun h116 => ?_) (fun h116 => by exfalso; omega) | refine r_icmp_ne (tgt := 131) dX8_nests_116 (by decide) (fun h116 => ?_) (fun h116 => by exfalso; omega)
            refine r_iload_n dX8_nests_131 rfl ?_
            refine r_if_eq_n (tgt := 147) dX8_nests_132 (by decide) (by omega) (fun h132 => by exfalso; omega) (fun h132 => ?_)
            refine r_iload_n dX8_nests_135 rfl ?_
            refine r_bipush (v := nI 7) dX8_nests_136 (by decide) ?_
            first | refine r_icmp_eq_n (tgt := 147) dX8_nests_138 (by decide) (by omega) (by omega) (fun h138 => by exfalso; omega) (fun h138 => ?_) | refine r_icmp_eq_pn (tgt := 147) dX8_nests_138 (by decide) (by omega) (by omega) (fun h138 => by exfalso; omega) (fun h138 => ?_) | refine r_icmp_eq_pm (tgt := 147) dX8_nests_138 (by decide) (by omega) (fun h138 => by exfalso; omega) (fun h138 => ?_) | refine r_icmp_eq (tgt := 147) dX8_nests_138 (by decide) (fun h138 => by exfalso; omega) (fun h138 => ?_)
            refine r_iload_n dX8_nests_141 rfl ?_
            refine r_bipush (v := nI 8) dX8_nests_142 (by decide) ?_
            first | refine r_icmp_ne_n (tgt := 211) dX8_nests_144 (by decide) (by omega) (by omega) (fun h144 => ?_) (fun h144 => by exfalso; omega) | refine r_icmp_ne_pn (tgt := 211) dX8_nests_144 (by decide) (by omega) (by omega) (fun h144 => ?_) (fun h144 => by exfalso; omega) | refine r_icmp_ne_pm (tgt := 211) dX8_nests_144 (by decide) (by omega) (fun h144 => ?_) (fun h144 => by exfalso; omega) | refine r_icmp_ne (tgt := 211) dX8_nests_144 (by decide) (fun h144 => ?_) (fun h144 => by exfalso; omega)
            refine nxt M F' A1 r _ hM (fun _ _ => rfl) (fun j hj => qo j (by omega)) ?_ (by rw [q5, q6]; exact hs3) q7 (Or.inr ⟨h14, by omega⟩)
            rw [q8, q9]
            unfold nsStep; rw [if_pos hE]; show (if e ≠ so i then none else _) = _
            rw [if_neg (by omega), if_pos h1]
          · refine r_iload_n dX8_nests_92 rfl ?_
            refine r_bipush (v := nI 8) dX8_nests_93 (by decide) ?_
            first | refine r_icmp_ne_n (tgt := 113) dX8_nests_95 (by decide) (by omega) (by omega) (fun h95 => by exfalso; omega) (fun h95 => ?_) | refine r_icmp_ne_pn (tgt := 113) dX8_nests_95 (by decide) (by omega) (by omega) (fun h95 => by exfalso; omega) (fun h95 => ?_) | refine r_icmp_ne_pm (tgt := 113) dX8_nests_95 (by decide) (by omega) (fun h95 => by exfalso; omega) (fun h95 => ?_) | refine r_icmp_ne (tgt := 113) dX8_nests_95 (by decide) (fun h95 => by exfalso; omega) (fun h95 => ?_)
            first | refine r_aload_n dX8_nests_98 rfl ?_ | refine r_aload_nq dX8_nests_98 rfl ?_ | refine r_aload_nN dX8_nests_98 rfl ?_
            refine r_getf f_X8_31_7 (by first | exact MAt.o (by assumption) | exact MAt.a1 (by assumption) | exact MAt.a2 (by assumption) | exact MAt.a3 (by assumption) | exact MAt.a4 (by assumption) | exact MAt.a5 (by assumption) | exact MAt.a6 (by assumption) | exact MAt.a7 (by assumption) | exact MAt.a8 (by assumption) | exact MAt.a9 (by assumption) | exact MAt.a10 (by assumption) | exact MAt.a11 (by assumption) | exact MAt.a12 (by assumption) | exact MAt.a13 (by assumption) | exact MAt.a14 (by assumption) | exact MAt.a15 (by assumption) | exact MAt.a16 (by assumption)) (by rfl) dX8_nests_99 ?_
            first | refine r_aload_n dX8_nests_102 rfl ?_ | refine r_aload_nq dX8_nests_102 rfl ?_ | refine r_aload_nN dX8_nests_102 rfl ?_
            refine r_getf f_X8_25_7 (by first | exact MAt.o (by assumption) | exact MAt.a1 (by assumption) | exact MAt.a2 (by assumption) | exact MAt.a3 (by assumption) | exact MAt.a4 (by assumption) | exact MAt.a5 (by assumption) | exact MAt.a6 (by assumption) | exact MAt.a7 (by assumption) | exact MAt.a8 (by assumption) | exact MAt.a9 (by assumption) | exact MAt.a10 (by assumption) | exact MAt.a11 (by assumption) | exact MAt.a12 (by assumption) | exact MAt.a13 (by assumption) | exact MAt.a14 (by assumption) | exact MAt.a15 (by assumption) | exact MAt.a16 (by assumption)) (by rfl) dX8_nests_103 ?_
            refine r_iload_n dX8_nests_106 rfl ?_
            refine r_iald_n (by first | exact MAt.o (by assumption) | exact MAt.a1 (by assumption) | exact MAt.a2 (by assumption) | exact MAt.a3 (by assumption) | exact MAt.a4 (by assumption) | exact MAt.a5 (by assumption) | exact MAt.a6 (by assumption) | exact MAt.a7 (by assumption) | exact MAt.a8 (by assumption) | exact MAt.a9 (by assumption) | exact MAt.a10 (by assumption) | exact MAt.a11 (by assumption) | exact MAt.a12 (by assumption) | exact MAt.a13 (by assumption) | exact MAt.a14 (by assumption) | exact MAt.a15 (by assumption) | exact MAt.a16 (by assumption)) (by rfl) (by omega) (by omega) dX8_nests_107 ?_
            refine r_iload_n dX8_nests_108 rfl ?_
            refine r_iast_n (by first | exact MAt.o (by assumption) | exact MAt.a1 (by assumption) | exact MAt.a2 (by assumption) | exact MAt.a3 (by assumption) | exact MAt.a4 (by assumption) | exact MAt.a5 (by assumption) | exact MAt.a6 (by assumption) | exact MAt.a7 (by assumption) | exact MAt.a8 (by assumption) | exact MAt.a9 (by assumption) | exact MAt.a10 (by assumption) | exact MAt.a11 (by assumption) | exact MAt.a12 (by assumption) | exact MAt.a13 (by assumption) | exact MAt.a14 (by assumption) | exact MAt.a15 (by assumption) | exact MAt.a16 (by assumption)) (by rfl) (by omega) (by omega) (by omega) dX8_nests_109 ?_
            first | refine MAt.g1 (by assumption) (fun M hM => ?_) | refine MAt.g2 (by assumption) (fun M hM => ?_) | refine MAt.g3 (by assumption) (fun M hM => ?_) | refine MAt.g4 (by assumption) (fun M hM => ?_) | refine MAt.g5 (by assumption) (fun M hM => ?_) | refine MAt.g6 (by assumption) (fun M hM => ?_) | refine MAt.g7 (by assumption) (fun M hM => ?_) | refine MAt.g8 (by assumption) (fun M hM => ?_) | refine MAt.g9 (by assumption) (fun M hM => ?_) | refine MAt.g16 (by assumption) (fun M hM => ?_) | refine MAt.g10 _ (by assumption) ?_ (fun M hM => ?_) | refine MAt.g11 _ (by assumption) ?_ (fun M hM => ?_) | refine MAt.g12 _ (by assumption) ?_ (fun M hM => ?_)
            obtain ⟨A2, hA2, hM⟩ : ∃ A2 : Nat → Nat → Nat, A2 = fA A1 8 (fU (A1 8) (A1 6 r.length) i) ∧ MAt B M m F' D A2 := ⟨_, rfl, hM⟩
            have p6 : A2 6 = A' 6 := by rw [hA2]; exact q6
            have p5 : A2 5 = A' 5 := by rw [hA2]; exact q5
            refine r_goto (tgt := 131) dX8_nests_110 (by decide) ?_
            refine r_iload_n dX8_nests_131 rfl ?_
            refine r_if_eq_n (tgt := 147) dX8_nests_132 (by decide) (by omega) (fun h132 => by exfalso; omega) (fun h132 => ?_)
            refine r_iload_n dX8_nests_135 rfl ?_
            refine r_bipush (v := nI 7) dX8_nests_136 (by decide) ?_
            first | refine r_icmp_eq_n (tgt := 147) dX8_nests_138 (by decide) (by omega) (by omega) (fun h138 => by exfalso; omega) (fun h138 => ?_) | refine r_icmp_eq_pn (tgt := 147) dX8_nests_138 (by decide) (by omega) (by omega) (fun h138 => by exfalso; omega) (fun h138 => ?_) | refine r_icmp_eq_pm (tgt := 147) dX8_nests_138 (by decide) (by omega) (fun h138 => by exfalso; omega) (fun h138 => ?_) | refine r_icmp_eq (tgt := 147) dX8_nests_138 (by decide) (fun h138 => by exfalso; omega) (fun h138 => ?_)
            refine r_iload_n dX8_nests_141 rfl ?_
            refine r_bipush (v := nI 8) dX8_nests_142 (by decide) ?_
            first | refine r_icmp_ne_n (tgt := 211) dX8_nests_144 (by decide) (by omega) (by omega) (fun h144 => by exfalso; omega) (fun h144 => ?_) | refine r_icmp_ne_pn (tgt := 211) dX8_nests_144 (by decide) (by omega) (by omega) (fun h144 => by exfalso; omega) (fun h144 => ?_) | refine r_icmp_ne_pm (tgt := 211) dX8_nests_144 (by decide) (by omega) (fun h144 => by exfalso; omega) (fun h144 => ?_) | refine r_icmp_ne (tgt := 211) dX8_nests_144 (by decide) (fun h144 => by exfalso; omega) (fun h144 => ?_)
            first | refine r_aload_n dX8_nests_147 rfl ?_ | refine r_aload_nq dX8_nests_147 rfl ?_ | refine r_aload_nN dX8_nests_147 rfl ?_
            refine r_getf f_X8_22_7 (by first | exact MAt.o (by assumption) | exact MAt.a1 (by assumption) | exact MAt.a2 (by assumption) | exact MAt.a3 (by assumption) | exact MAt.a4 (by assumption) | exact MAt.a5 (by assumption) | exact MAt.a6 (by assumption) | exact MAt.a7 (by assumption) | exact MAt.a8 (by assumption) | exact MAt.a9 (by assumption) | exact MAt.a10 (by assumption) | exact MAt.a11 (by assumption) | exact MAt.a12 (by assumption) | exact MAt.a13 (by assumption) | exact MAt.a14 (by assumption) | exact MAt.a15 (by assumption) | exact MAt.a16 (by assumption)) (by rfl) dX8_nests_148 ?_
            refine r_iload_n dX8_nests_151 rfl ?_
            refine r_iload_n dX8_nests_152 rfl ?_
            refine r_if_ne_n (tgt := 160) dX8_nests_153 (by decide) (by omega) (fun h153 => ?_) (fun h153 => by exfalso; omega)
            refine r_iload_n dX8_nests_160 rfl ?_
            refine r_bipush (v := nI 7) dX8_nests_161 (by decide) ?_
            first | refine r_icmp_ne_n (tgt := 171) dX8_nests_163 (by decide) (by omega) (by omega) (fun h163 => ?_) (fun h163 => by exfalso; omega) | refine r_icmp_ne_pn (tgt := 171) dX8_nests_163 (by decide) (by omega) (by omega) (fun h163 => ?_) (fun h163 => by exfalso; omega) | refine r_icmp_ne_pm (tgt := 171) dX8_nests_163 (by decide) (by omega) (fun h163 => ?_) (fun h163 => by exfalso; omega) | refine r_icmp_ne (tgt := 171) dX8_nests_163 (by decide) (fun h163 => ?_) (fun h163 => by exfalso; omega)
            refine r_bipush (v := nI 9) dX8_nests_171 (by decide) ?_
            refine r_iast_n (by first | exact MAt.o (by assumption) | exact MAt.a1 (by assumption) | exact MAt.a2 (by assumption) | exact MAt.a3 (by assumption) | exact MAt.a4 (by assumption) | exact MAt.a5 (by assumption) | exact MAt.a6 (by assumption) | exact MAt.a7 (by assumption) | exact MAt.a8 (by assumption) | exact MAt.a9 (by assumption) | exact MAt.a10 (by assumption) | exact MAt.a11 (by assumption) | exact MAt.a12 (by assumption) | exact MAt.a13 (by assumption) | exact MAt.a14 (by assumption) | exact MAt.a15 (by assumption) | exact MAt.a16 (by assumption)) (by rfl) (by omega) (by omega) (by omega) dX8_nests_173 ?_
            first | refine MAt.g1 (by assumption) (fun M hM => ?_) | refine MAt.g2 (by assumption) (fun M hM => ?_) | refine MAt.g3 (by assumption) (fun M hM => ?_) | refine MAt.g4 (by assumption) (fun M hM => ?_) | refine MAt.g5 (by assumption) (fun M hM => ?_) | refine MAt.g6 (by assumption) (fun M hM => ?_) | refine MAt.g7 (by assumption) (fun M hM => ?_) | refine MAt.g8 (by assumption) (fun M hM => ?_) | refine MAt.g9 (by assumption) (fun M hM => ?_) | refine MAt.g16 (by assumption) (fun M hM => ?_) | refine MAt.g10 _ (by assumption) ?_ (fun M hM => ?_) | refine MAt.g11 _ (by assumption) ?_ (fun M hM => ?_) | refine MAt.g12 _ (by assumption) ?_ (fun M hM => ?_)
            first | refine r_aload_n dX8_nests_174 rfl ?_ | refine r_aload_nq dX8_nests_174 rfl ?_ | refine r_aload_nN dX8_nests_174 rfl ?_
            refine r_getf f_X8_25_7 (by first | exact MAt.o (by assumption) | exact MAt.a1 (by assumption) | exact MAt.a2 (by assumption) | exact MAt.a3 (by assumption) | exact MAt.a4 (by assumption) | exact MAt.a5 (by assumption) | exact MAt.a6 (by assumption) | exact MAt.a7 (by assumption) | exact MAt.a8 (by assumption) | exact MAt.a9 (by assumption) | exact MAt.a10 (by assumption) | exact MAt.a11 (by assumption) | exact MAt.a12 (by assumption) | exact MAt.a13 (by assumption) | exact MAt.a14 (by assumption) | exact MAt.a15 (by assumption) | exact MAt.a16 (by assumption)) (by rfl) dX8_nests_175 ?_
            refine r_iload_n dX8_nests_178 rfl ?_
            refine r_iload_n dX8_nests_179 rfl ?_
            refine r_bipush (v := nI 8) dX8_nests_180 (by decide) ?_
            first | refine r_icmp_ne_n (tgt := 194) dX8_nests_182 (by decide) (by omega) (by omega) (fun h182 => by exfalso; omega) (fun h182 => ?_) | refine r_icmp_ne_pn (tgt := 194) dX8_nests_182 (by decide) (by omega) (by omega) (fun h182 => by exfalso; omega) (fun h182 => ?_) | refine r_icmp_ne_pm (tgt := 194) dX8_nests_182 (by decide) (by omega) (fun h182 => by exfalso; omega) (fun h182 => ?_) | refine r_icmp_ne (tgt := 194) dX8_nests_182 (by decide) (fun h182 => by exfalso; omega) (fun h182 => ?_)
            first | refine r_aload_n dX8_nests_185 rfl ?_ | refine r_aload_nq dX8_nests_185 rfl ?_ | refine r_aload_nN dX8_nests_185 rfl ?_
            refine r_getf f_X8_25_7 (by first | exact MAt.o (by assumption) | exact MAt.a1 (by assumption) | exact MAt.a2 (by assumption) | exact MAt.a3 (by assumption) | exact MAt.a4 (by assumption) | exact MAt.a5 (by assumption) | exact MAt.a6 (by assumption) | exact MAt.a7 (by assumption) | exact MAt.a8 (by assumption) | exact MAt.a9 (by assumption) | exact MAt.a10 (by assumption) | exact MAt.a11 (by assumption) | exact MAt.a12 (by assumption) | exact MAt.a13 (by assumption) | exact MAt.a14 (by assumption) | exact MAt.a15 (by assumption) | exact MAt.a16 (by assumption)) (by rfl) dX8_nests_186 ?_
            refine r_iload_n dX8_nests_189 rfl ?_
            refine r_iald_n (by first | exact MAt.o (by assumption) | exact MAt.a1 (by assumption) | exact MAt.a2 (by assumption) | exact MAt.a3 (by assumption) | exact MAt.a4 (by assumption) | exact MAt.a5 (by assumption) | exact MAt.a6 (by assumption) | exact MAt.a7 (by assumption) | exact MAt.a8 (by assumption) | exact MAt.a9 (by assumption) | exact MAt.a10 (by assumption) | exact MAt.a11 (by assumption) | exact MAt.a12 (by assumption) | exact MAt.a13 (by assumption) | exact MAt.a14 (by assumption) | exact MAt.a15 (by assumption) | exact MAt.a16 (by assumption)) (by rfl) (by omega) (by omega) dX8_nests_190 ?_
            refine r_goto (tgt := 195) dX8_nests_191 (by decide) ?_
            refine r_iast_n (by first | exact MAt.o (by assumption) | exact MAt.a1 (by assumption) | exact MAt.a2 (by assumption) | exact MAt.a3 (by assumption) | exact MAt.a4 (by assumption) | exact MAt.a5 (by assumption) | exact MAt.a6 (by assumption) | exact MAt.a7 (by assumption) | exact MAt.a8 (by assumption) | exact MAt.a9 (by assumption) | exact MAt.a10 (by assumption) | exact MAt.a11 (by assumption) | exact MAt.a12 (by assumption) | exact MAt.a13 (by assumption) | exact MAt.a14 (by assumption) | exact MAt.a15 (by assumption) | exact MAt.a16 (by assumption)) (by rfl) (by omega) (by omega) (by omega) dX8_nests_195 ?_
            first | refine MAt.g1 (by assumption) (fun M hM => ?_) | refine MAt.g2 (by assumption) (fun M hM => ?_) | refine MAt.g3 (by assumption) (fun M hM => ?_) | refine MAt.g4 (by assumption) (fun M hM => ?_) | refine MAt.g5 (by assumption) (fun M hM => ?_) | refine MAt.g6 (by assumption) (fun M hM => ?_) | refine MAt.g7 (by assumption) (fun M hM => ?_) | refine MAt.g8 (by assumption) (fun M hM => ?_) | refine MAt.g9 (by assumption) (fun M hM => ?_) | refine MAt.g16 (by assumption) (fun M hM => ?_) | refine MAt.g10 _ (by assumption) ?_ (fun M hM => ?_) | refine MAt.g11 _ (by assumption) ?_ (fun M hM => ?_) | refine MAt.g12 _ (by assumption) ?_ (fun M hM => ?_)
            first | refine r_iinc_n 1 dX8_nests_196 rfl (by decide) ?_ | refine r_iinc dX8_nests_196 rfl rfl (by decide) ?_
            simp only [mst1, mclr]
            first | refine r_aload_n dX8_nests_199 rfl ?_ | refine r_aload_nq dX8_nests_199 rfl ?_ | refine r_aload_nN dX8_nests_199 rfl ?_
            first | refine r_aload_n dX8_nests_200 rfl ?_ | refine r_aload_nq dX8_nests_200 rfl ?_ | refine r_aload_nN dX8_nests_200 rfl ?_
            refine r_getf f_X8_160_7 (by first | exact MAt.o (by assumption) | exact MAt.a1 (by assumption) | exact MAt.a2 (by assumption) | exact MAt.a3 (by assumption) | exact MAt.a4 (by assumption) | exact MAt.a5 (by assumption) | exact MAt.a6 (by assumption) | exact MAt.a7 (by assumption) | exact MAt.a8 (by assumption) | exact MAt.a9 (by assumption) | exact MAt.a10 (by assumption) | exact MAt.a11 (by assumption) | exact MAt.a12 (by assumption) | exact MAt.a13 (by assumption) | exact MAt.a14 (by assumption) | exact MAt.a15 (by assumption) | exact MAt.a16 (by assumption)) (by rfl) dX8_nests_201 ?_
            refine r_iload_n dX8_nests_204 rfl ?_
            refine r_callS s_X8_163_s dX8_nests_205 (by rfl) rfl (Nat.le_of_ble_eq_true rfl) (j_max _ _ (by omega) (by omega) ?_)
            refine mK_r ?_
            refine r_putf f_X8_160_7 ft_7_14 (by first | exact MAt.o (by assumption) | exact MAt.a1 (by assumption) | exact MAt.a2 (by assumption) | exact MAt.a3 (by assumption) | exact MAt.a4 (by assumption) | exact MAt.a5 (by assumption) | exact MAt.a6 (by assumption) | exact MAt.a7 (by assumption) | exact MAt.a8 (by assumption) | exact MAt.a9 (by assumption) | exact MAt.a10 (by assumption) | exact MAt.a11 (by assumption) | exact MAt.a12 (by assumption) | exact MAt.a13 (by assumption) | exact MAt.a14 (by assumption) | exact MAt.a15 (by assumption) | exact MAt.a16 (by assumption)) (by omega) (by first | rfl | exact bI_nar _) (by first | rfl | exact bI_fit _) dX8_nests_208 ?_
            refine MAt.p14 (by assumption) (fun M hM => ?_)
            refine nxt M _ _ ((9, b) :: r) _ hM (fun k hk => fU_ne hk) (fun j hj => ?_) ?_ ?_ ?_ (Or.inl ?_)
            · rw [fA_ne (by omega), fA_ne (by omega), hA2, fA_ne (by omega)]; exact qo j (by omega)
            · show nsStep i (so i) ((e, b) :: r, A' 8, A' 9) = some ((9, b) :: r, A2 8, A2 9)
              rw [hA2, fA_eq, fA_ne (by decide), hb6, q8, q9]
              unfold nsStep; rw [if_pos hE]; show (if e ≠ so i then none else _) = _
              rw [if_neg (by omega), if_neg (by omega), if_pos h8]
            · refine ⟨?_, ?_, ?_⟩
              · rw [fA_ne (by decide), fA_eq]; exact fU_eq
              · rw [fA_eq]; rw [fA_ne (by decide), p6]; rw [fU_eq]; exact hs2
              · rw [fA_ne (by decide), fA_eq, fA_eq]; rw [fA_ne (by decide), p5, p6]; exact stk_ge (Nat.le_refl _) hs3
            · rw [fA_ne (by decide), fA_ne (by decide), hA2, fA_ne (by decide)]; exact q7
            · rw [fU_eq, h14]; rfl
          · refine r_iload_n dX8_nests_92 rfl ?_
            refine r_bipush (v := nI 8) dX8_nests_93 (by decide) ?_
            first | refine r_icmp_ne_n (tgt := 113) dX8_nests_95 (by decide) (by omega) (by omega) (fun h95 => ?_) (fun h95 => by exfalso; omega) | refine r_icmp_ne_pn (tgt := 113) dX8_nests_95 (by decide) (by omega) (by omega) (fun h95 => ?_) (fun h95 => by exfalso; omega) | refine r_icmp_ne_pm (tgt := 113) dX8_nests_95 (by decide) (by omega) (fun h95 => ?_) (fun h95 => by exfalso; omega) | refine r_icmp_ne (tgt := 113) dX8_nests_95 (by decide) (fun h95 => ?_) (fun h95 => by exfalso; omega)
            refine r_iload_n dX8_nests_113 rfl ?_
            refine r_bipush (v := nI 9) dX8_nests_114 (by decide) ?_
            first | refine r_icmp_ne_n (tgt := 131) dX8_nests_116 (by decide) (by omega) (by omega) (fun h116 => by exfalso; omega) (fun h116 => ?_) | refine r_icmp_ne_pn (tgt := 131) dX8_nests_116 (by decide) (by omega) (by omega) (fun h116 => by exfalso; omega) (fun h116 => ?_) | refine r_icmp_ne_pm (tgt := 131) dX8_nests_116 (by decide) (by omega) (fun h116 => by exfalso; omega) (fun h116 => ?_) | refine r_icmp_ne (tgt := 131) dX8_nests_116 (by decide) (fun h116 => by exfalso; omega) (fun h116 => ?_)
            first | refine r_aload_n dX8_nests_119 rfl ?_ | refine r_aload_nq dX8_nests_119 rfl ?_ | refine r_aload_nN dX8_nests_119 rfl ?_
            refine r_getf f_X8_34_7 (by first | exact MAt.o (by assumption) | exact MAt.a1 (by assumption) | exact MAt.a2 (by assumption) | exact MAt.a3 (by assumption) | exact MAt.a4 (by assumption) | exact MAt.a5 (by assumption) | exact MAt.a6 (by assumption) | exact MAt.a7 (by assumption) | exact MAt.a8 (by assumption) | exact MAt.a9 (by assumption) | exact MAt.a10 (by assumption) | exact MAt.a11 (by assumption) | exact MAt.a12 (by assumption) | exact MAt.a13 (by assumption) | exact MAt.a14 (by assumption) | exact MAt.a15 (by assumption) | exact MAt.a16 (by assumption)) (by rfl) dX8_nests_120 ?_
            first | refine r_aload_n dX8_nests_123 rfl ?_ | refine r_aload_nq dX8_nests_123 rfl ?_ | refine r_aload_nN dX8_nests_123 rfl ?_
            refine r_getf f_X8_25_7 (by first | exact MAt.o (by assumption) | exact MAt.a1 (by assumption) | exact MAt.a2 (by assumption) | exact MAt.a3 (by assumption) | exact MAt.a4 (by assumption) | exact MAt.a5 (by assumption) | exact MAt.a6 (by assumption) | exact MAt.a7 (by assumption) | exact MAt.a8 (by assumption) | exact MAt.a9 (by assumption) | exact MAt.a10 (by assumption) | exact MAt.a11 (by assumption) | exact MAt.a12 (by assumption) | exact MAt.a13 (by assumption) | exact MAt.a14 (by assumption) | exact MAt.a15 (by assumption) | exact MAt.a16 (by assumption)) (by rfl) dX8_nests_124 ?_
            refine r_iload_n dX8_nests_127 rfl ?_
            refine r_iald_n (by first | exact MAt.o (by assumption) | exact MAt.a1 (by assumption) | exact MAt.a2 (by assumption) | exact MAt.a3 (by assumption) | exact MAt.a4 (by assumption) | exact MAt.a5 (by assumption) | exact MAt.a6 (by assumption) | exact MAt.a7 (by assumption) | exact MAt.a8 (by assumption) | exact MAt.a9 (by assumption) | exact MAt.a10 (by assumption) | exact MAt.a11 (by assumption) | exact MAt.a12 (by assumption) | exact MAt.a13 (by assumption) | exact MAt.a14 (by assumption) | exact MAt.a15 (by assumption) | exact MAt.a16 (by assumption)) (by rfl) (by omega) (by omega) dX8_nests_128 ?_
            refine r_iload_n dX8_nests_129 rfl ?_
            refine r_iast_n (by first | exact MAt.o (by assumption) | exact MAt.a1 (by assumption) | exact MAt.a2 (by assumption) | exact MAt.a3 (by assumption) | exact MAt.a4 (by assumption) | exact MAt.a5 (by assumption) | exact MAt.a6 (by assumption) | exact MAt.a7 (by assumption) | exact MAt.a8 (by assumption) | exact MAt.a9 (by assumption) | exact MAt.a10 (by assumption) | exact MAt.a11 (by assumption) | exact MAt.a12 (by assumption) | exact MAt.a13 (by assumption) | exact MAt.a14 (by assumption) | exact MAt.a15 (by assumption) | exact MAt.a16 (by assumption)) (by rfl) (by omega) (by omega) (by omega) dX8_nests_130 ?_
            first | refine MAt.g1 (by assumption) (fun M hM => ?_) | refine MAt.g2 (by assumption) (fun M hM => ?_) | refine MAt.g3 (by assumption) (fun M hM => ?_) | refine MAt.g4 (by assumption) (fun M hM => ?_) | refine MAt.g5 (by assumption) (fun M hM => ?_) | refine MAt.g6 (by assumption) (fun M hM => ?_) | refine MAt.g7 (by assumption) (fun M hM => ?_) | refine MAt.g8 (by assumption) (fun M hM => ?_) | refine MAt.g9 (by assumption) (fun M hM => ?_) | refine MAt.g16 (by assumption) (fun M hM => ?_) | refine MAt.g10 _ (by assumption) ?_ (fun M hM => ?_) | refine MAt.g11 _ (by assumption) ?_ (fun M hM => ?_) | refine MAt.g12 _ (by assumption) ?_ (fun M hM => ?_)
            refine r_iload_n dX8_nests_131 rfl ?_
            refine r_if_eq_n (tgt := 147) dX8_nests_132 (by decide) (by omega) (fun h132 => by exfalso; omega) (fun h132 => ?_)
            refine r_iload_n dX8_nests_135 rfl ?_
            refine r_bipush (v := nI 7) dX8_nests_136 (by decide) ?_
            first | refine r_icmp_eq_n (tgt := 147) dX8_nests_138 (by decide) (by omega) (by omega) (fun h138 => by exfalso; omega) (fun h138 => ?_) | refine r_icmp_eq_pn (tgt := 147) dX8_nests_138 (by decide) (by omega) (by omega) (fun h138 => by exfalso; omega) (fun h138 => ?_) | refine r_icmp_eq_pm (tgt := 147) dX8_nests_138 (by decide) (by omega) (fun h138 => by exfalso; omega) (fun h138 => ?_) | refine r_icmp_eq (tgt := 147) dX8_nests_138 (by decide) (fun h138 => by exfalso; omega) (fun h138 => ?_)
            refine r_iload_n dX8_nests_141 rfl ?_
            refine r_bipush (v := nI 8) dX8_nests_142 (by decide) ?_
            first | refine r_icmp_ne_n (tgt := 211) dX8_nests_144 (by decide) (by omega) (by omega) (fun h144 => ?_) (fun h144 => by exfalso; omega) | refine r_icmp_ne_pn (tgt := 211) dX8_nests_144 (by decide) (by omega) (by omega) (fun h144 => ?_) (fun h144 => by exfalso; omega) | refine r_icmp_ne_pm (tgt := 211) dX8_nests_144 (by decide) (by omega) (fun h144 => ?_) (fun h144 => by exfalso; omega) | refine r_icmp_ne (tgt := 211) dX8_nests_144 (by decide) (fun h144 => ?_) (fun h144 => by exfalso; omega)
            refine nxt M F' _ r _ hM (fun _ _ => rfl) (fun j hj => by rw [fA_ne (by omega)]; exact qo j (by omega)) ?_ ?_ ?_ (Or.inr ⟨h14, by omega⟩)
            · rw [fA_eq, fA_ne (by decide), q8, q9, hb6]
              unfold nsStep; rw [if_pos hE]; show (if e ≠ so i then none else _) = _
              rw [if_neg (by omega), if_neg (by omega), if_neg (by omega)]
            · rw [fA_ne (by decide), fA_ne (by decide), q5, q6]; exact hs3
            · rw [fA_ne (by decide)]; exact q7
      have noend : isEn (so i) = false → mW G zX8_nests (d + 1) 46 [some (.ref m), some (.int (nI st.length)), some (.int (nI i)), some (.int (nI (so i))), v4] [] M t u Q := by
        intro hE
        have hE3 : ¬ (so i = 1 ∨ so i = 8 ∨ so i = 9) := of_decide_eq_false hE
        have eAr : arD so i = st.length := by unfold arD; rw [if_neg (by rw [hE]; decide), eD]; rfl
        refine r_iconst (v := nI 0) dX8_nests_46 (by decide) ?_
        refine r_istore dX8_nests_47 (by decide) ?_
        simp only [mst1, mclr]
        refine r_iload dX8_nests_49 rfl ?_
        refine r_if_eq_n (tgt := 72) dX8_nests_51 (by decide) (by omega) (fun h51 => ?_) (fun h51 => by exfalso; omega)
        refine r_iload_n dX8_nests_72 rfl ?_
        refine r_iload dX8_nests_73 rfl ?_
        refine r_if_eq_n (tgt := 82) dX8_nests_75 (by decide) (by omega) (fun h75 => ?_) (fun h75 => by exfalso; omega)
        refine r_iconst (v := nI 0) dX8_nests_82 (by decide) ?_
        first | refine r_isub_n dX8_nests_83 (by omega) ?_ | refine r_isub dX8_nests_83 ?_
        refine r_istore_n dX8_nests_84 (by decide) ?_
        simp only [mst1, mclr]
        first | refine r_aload_n dX8_nests_85 rfl ?_ | refine r_aload_nq dX8_nests_85 rfl ?_ | refine r_aload_nN dX8_nests_85 rfl ?_
        refine r_getf f_X8_28_7 (by first | exact MAt.o (by assumption) | exact MAt.a1 (by assumption) | exact MAt.a2 (by assumption) | exact MAt.a3 (by assumption) | exact MAt.a4 (by assumption) | exact MAt.a5 (by assumption) | exact MAt.a6 (by assumption) | exact MAt.a7 (by assumption) | exact MAt.a8 (by assumption) | exact MAt.a9 (by assumption) | exact MAt.a10 (by assumption) | exact MAt.a11 (by assumption) | exact MAt.a12 (by assumption) | exact MAt.a13 (by assumption) | exact MAt.a14 (by assumption) | exact MAt.a15 (by assumption) | exact MAt.a16 (by assumption)) (by rfl) dX8_nests_86 ?_
        refine r_iload_n dX8_nests_89 rfl ?_
        refine r_iload_n dX8_nests_90 rfl ?_
        refine r_iast_n (by first | exact MAt.o (by assumption) | exact MAt.a1 (by assumption) | exact MAt.a2 (by assumption) | exact MAt.a3 (by assumption) | exact MAt.a4 (by assumption) | exact MAt.a5 (by assumption) | exact MAt.a6 (by assumption) | exact MAt.a7 (by assumption) | exact MAt.a8 (by assumption) | exact MAt.a9 (by assumption) | exact MAt.a10 (by assumption) | exact MAt.a11 (by assumption) | exact MAt.a12 (by assumption) | exact MAt.a13 (by assumption) | exact MAt.a14 (by assumption) | exact MAt.a15 (by assumption) | exact MAt.a16 (by assumption)) (by rfl) (by omega) (by omega) (by omega) dX8_nests_91 ?_
        first | refine MAt.g1 (by assumption) (fun M hM => ?_) | refine MAt.g2 (by assumption) (fun M hM => ?_) | refine MAt.g3 (by assumption) (fun M hM => ?_) | refine MAt.g4 (by assumption) (fun M hM => ?_) | refine MAt.g5 (by assumption) (fun M hM => ?_) | refine MAt.g6 (by assumption) (fun M hM => ?_) | refine MAt.g7 (by assumption) (fun M hM => ?_) | refine MAt.g8 (by assumption) (fun M hM => ?_) | refine MAt.g9 (by assumption) (fun M hM => ?_) | refine MAt.g16 (by assumption) (fun M hM => ?_) | refine MAt.g10 _ (by assumption) ?_ (fun M hM => ?_) | refine MAt.g11 _ (by assumption) ?_ (fun M hM => ?_) | refine MAt.g12 _ (by assumption) ?_ (fun M hM => ?_)
        rw [show st.length - 0 = st.length by omega] at *
        obtain ⟨A1, hA1, hM⟩ : ∃ A1 : Nat → Nat → Nat, A1 = fA A' 7 (fU (A' 7) i st.length) ∧ MAt B M m F' D A1 := ⟨_, rfl, hM⟩
        have q7 : A1 7 = fU (A' 7) i (arD so i) := by rw [hA1, eAr]; rfl
        have qo : ∀ j, j ≠ 7 → A1 j = A' j := fun j hj => by rw [hA1]; exact fA_ne hj
        have q5 := qo 5 (by decide); have q6 := qo 6 (by decide); have q8 := qo 8 (by decide); have q9 := qo 9 (by decide)
        by_cases h0 : so i = 0
        · refine r_iload_n dX8_nests_92 rfl ?_
          refine r_bipush (v := nI 8) dX8_nests_93 (by decide) ?_
          first | refine r_icmp_ne_n (tgt := 113) dX8_nests_95 (by decide) (by omega) (by omega) (fun h95 => ?_) (fun h95 => by exfalso; omega) | refine r_icmp_ne_pn (tgt := 113) dX8_nests_95 (by decide) (by omega) (by omega) (fun h95 => ?_) (fun h95 => by exfalso; omega) | refine r_icmp_ne_pm (tgt := 113) dX8_nests_95 (by decide) (by omega) (fun h95 => ?_) (fun h95 => by exfalso; omega) | refine r_icmp_ne (tgt := 113) dX8_nests_95 (by decide) (fun h95 => ?_) (fun h95 => by exfalso; omega)
          refine r_iload_n dX8_nests_113 rfl ?_
          refine r_bipush (v := nI 9) dX8_nests_114 (by decide) ?_
          first | refine r_icmp_ne_n (tgt := 131) dX8_nests_116 (by decide) (by omega) (by omega) (fun h116 => ?_) (fun h116 => by exfalso; omega) | refine r_icmp_ne_pn (tgt := 131) dX8_nests_116 (by decide) (by omega) (by omega) (fun h116 => ?_) (fun h116 => by exfalso; omega) | refine r_icmp_ne_pm (tgt := 131) dX8_nests_116 (by decide) (by omega) (fun h116 => ?_) (fun h116 => by exfalso; omega) | refine r_icmp_ne (tgt := 131) dX8_nests_116 (by decide) (fun h116 => ?_) (fun h116 => by exfalso; omega)
          refine r_iload_n dX8_nests_131 rfl ?_
          refine r_if_eq_n (tgt := 147) dX8_nests_132 (by decide) (by omega) (fun h132 => ?_) (fun h132 => by exfalso; omega)
          first | refine r_aload_n dX8_nests_147 rfl ?_ | refine r_aload_nq dX8_nests_147 rfl ?_ | refine r_aload_nN dX8_nests_147 rfl ?_
          refine r_getf f_X8_22_7 (by first | exact MAt.o (by assumption) | exact MAt.a1 (by assumption) | exact MAt.a2 (by assumption) | exact MAt.a3 (by assumption) | exact MAt.a4 (by assumption) | exact MAt.a5 (by assumption) | exact MAt.a6 (by assumption) | exact MAt.a7 (by assumption) | exact MAt.a8 (by assumption) | exact MAt.a9 (by assumption) | exact MAt.a10 (by assumption) | exact MAt.a11 (by assumption) | exact MAt.a12 (by assumption) | exact MAt.a13 (by assumption) | exact MAt.a14 (by assumption) | exact MAt.a15 (by assumption) | exact MAt.a16 (by assumption)) (by rfl) dX8_nests_148 ?_
          refine r_iload_n dX8_nests_151 rfl ?_
          refine r_iload_n dX8_nests_152 rfl ?_
          refine r_if_ne_n (tgt := 160) dX8_nests_153 (by decide) (by omega) (fun h153 => by exfalso; omega) (fun h153 => ?_)
          refine r_iconst (v := nI 1) dX8_nests_156 (by decide) ?_
          refine r_goto (tgt := 173) dX8_nests_157 (by decide) ?_
          refine r_iast_n (by first | exact MAt.o (by assumption) | exact MAt.a1 (by assumption) | exact MAt.a2 (by assumption) | exact MAt.a3 (by assumption) | exact MAt.a4 (by assumption) | exact MAt.a5 (by assumption) | exact MAt.a6 (by assumption) | exact MAt.a7 (by assumption) | exact MAt.a8 (by assumption) | exact MAt.a9 (by assumption) | exact MAt.a10 (by assumption) | exact MAt.a11 (by assumption) | exact MAt.a12 (by assumption) | exact MAt.a13 (by assumption) | exact MAt.a14 (by assumption) | exact MAt.a15 (by assumption) | exact MAt.a16 (by assumption)) (by rfl) (by omega) (by omega) (by omega) dX8_nests_173 ?_
          first | refine MAt.g1 (by assumption) (fun M hM => ?_) | refine MAt.g2 (by assumption) (fun M hM => ?_) | refine MAt.g3 (by assumption) (fun M hM => ?_) | refine MAt.g4 (by assumption) (fun M hM => ?_) | refine MAt.g5 (by assumption) (fun M hM => ?_) | refine MAt.g6 (by assumption) (fun M hM => ?_) | refine MAt.g7 (by assumption) (fun M hM => ?_) | refine MAt.g8 (by assumption) (fun M hM => ?_) | refine MAt.g9 (by assumption) (fun M hM => ?_) | refine MAt.g16 (by assumption) (fun M hM => ?_) | refine MAt.g10 _ (by assumption) ?_ (fun M hM => ?_) | refine MAt.g11 _ (by assumption) ?_ (fun M hM => ?_) | refine MAt.g12 _ (by assumption) ?_ (fun M hM => ?_)
          first | refine r_aload_n dX8_nests_174 rfl ?_ | refine r_aload_nq dX8_nests_174 rfl ?_ | refine r_aload_nN dX8_nests_174 rfl ?_
          refine r_getf f_X8_25_7 (by first | exact MAt.o (by assumption) | exact MAt.a1 (by assumption) | exact MAt.a2 (by assumption) | exact MAt.a3 (by assumption) | exact MAt.a4 (by assumption) | exact MAt.a5 (by assumption) | exact MAt.a6 (by assumption) | exact MAt.a7 (by assumption) | exact MAt.a8 (by assumption) | exact MAt.a9 (by assumption) | exact MAt.a10 (by assumption) | exact MAt.a11 (by assumption) | exact MAt.a12 (by assumption) | exact MAt.a13 (by assumption) | exact MAt.a14 (by assumption) | exact MAt.a15 (by assumption) | exact MAt.a16 (by assumption)) (by rfl) dX8_nests_175 ?_
          refine r_iload_n dX8_nests_178 rfl ?_
          refine r_iload_n dX8_nests_179 rfl ?_
          refine r_bipush (v := nI 8) dX8_nests_180 (by decide) ?_
          first | refine r_icmp_ne_n (tgt := 194) dX8_nests_182 (by decide) (by omega) (by omega) (fun h182 => ?_) (fun h182 => by exfalso; omega) | refine r_icmp_ne_pn (tgt := 194) dX8_nests_182 (by decide) (by omega) (by omega) (fun h182 => ?_) (fun h182 => by exfalso; omega) | refine r_icmp_ne_pm (tgt := 194) dX8_nests_182 (by decide) (by omega) (fun h182 => ?_) (fun h182 => by exfalso; omega) | refine r_icmp_ne (tgt := 194) dX8_nests_182 (by decide) (fun h182 => ?_) (fun h182 => by exfalso; omega)
          refine r_iload_n dX8_nests_194 rfl ?_
          refine r_iast_n (by first | exact MAt.o (by assumption) | exact MAt.a1 (by assumption) | exact MAt.a2 (by assumption) | exact MAt.a3 (by assumption) | exact MAt.a4 (by assumption) | exact MAt.a5 (by assumption) | exact MAt.a6 (by assumption) | exact MAt.a7 (by assumption) | exact MAt.a8 (by assumption) | exact MAt.a9 (by assumption) | exact MAt.a10 (by assumption) | exact MAt.a11 (by assumption) | exact MAt.a12 (by assumption) | exact MAt.a13 (by assumption) | exact MAt.a14 (by assumption) | exact MAt.a15 (by assumption) | exact MAt.a16 (by assumption)) (by rfl) (by omega) (by omega) (by omega) dX8_nests_195 ?_
          first | refine MAt.g1 (by assumption) (fun M hM => ?_) | refine MAt.g2 (by assumption) (fun M hM => ?_) | refine MAt.g3 (by assumption) (fun M hM => ?_) | refine MAt.g4 (by assumption) (fun M hM => ?_) | refine MAt.g5 (by assumption) (fun M hM => ?_) | refine MAt.g6 (by assumption) (fun M hM => ?_) | refine MAt.g7 (by assumption) (fun M hM => ?_) | refine MAt.g8 (by assumption) (fun M hM => ?_) | refine MAt.g9 (by assumption) (fun M hM => ?_) | refine MAt.g16 (by assumption) (fun M hM => ?_) | refine MAt.g10 _ (by assumption) ?_ (fun M hM => ?_) | refine MAt.g11 _ (by assumption) ?_ (fun M hM => ?_) | refine MAt.g12 _ (by assumption) ?_ (fun M hM => ?_)
          first | refine r_iinc_n 1 dX8_nests_196 rfl (by decide) ?_ | refine r_iinc dX8_nests_196 rfl rfl (by decide) ?_
          simp only [mst1, mclr]
          first | refine r_aload_n dX8_nests_199 rfl ?_ | refine r_aload_nq dX8_nests_199 rfl ?_ | refine r_aload_nN dX8_nests_199 rfl ?_
          first | refine r_aload_n dX8_nests_200 rfl ?_ | refine r_aload_nq dX8_nests_200 rfl ?_ | refine r_aload_nN dX8_nests_200 rfl ?_
          refine r_getf f_X8_160_7 (by first | exact MAt.o (by assumption) | exact MAt.a1 (by assumption) | exact MAt.a2 (by assumption) | exact MAt.a3 (by assumption) | exact MAt.a4 (by assumption) | exact MAt.a5 (by assumption) | exact MAt.a6 (by assumption) | exact MAt.a7 (by assumption) | exact MAt.a8 (by assumption) | exact MAt.a9 (by assumption) | exact MAt.a10 (by assumption) | exact MAt.a11 (by assumption) | exact MAt.a12 (by assumption) | exact MAt.a13 (by assumption) | exact MAt.a14 (by assumption) | exact MAt.a15 (by assumption) | exact MAt.a16 (by assumption)) (by rfl) dX8_nests_201 ?_
          refine r_iload_n dX8_nests_204 rfl ?_
          refine r_callS s_X8_163_s dX8_nests_205 (by rfl) rfl (Nat.le_of_ble_eq_true rfl) (j_max _ _ (by omega) (by omega) ?_)
          refine mK_r ?_
          refine r_putf f_X8_160_7 ft_7_14 (by first | exact MAt.o (by assumption) | exact MAt.a1 (by assumption) | exact MAt.a2 (by assumption) | exact MAt.a3 (by assumption) | exact MAt.a4 (by assumption) | exact MAt.a5 (by assumption) | exact MAt.a6 (by assumption) | exact MAt.a7 (by assumption) | exact MAt.a8 (by assumption) | exact MAt.a9 (by assumption) | exact MAt.a10 (by assumption) | exact MAt.a11 (by assumption) | exact MAt.a12 (by assumption) | exact MAt.a13 (by assumption) | exact MAt.a14 (by assumption) | exact MAt.a15 (by assumption) | exact MAt.a16 (by assumption)) (by omega) (by first | rfl | exact bI_nar _) (by first | rfl | exact bI_fit _) dX8_nests_208 ?_
          refine MAt.p14 (by assumption) (fun M hM => ?_)
          refine nxt M _ _ ((1, i) :: st) _ hM (fun k hk => fU_ne hk) (fun j hj => ?_) ?_ ?_ ?_ (Or.inl ?_)
          · rw [fA_ne (by omega), fA_ne (by omega)]; exact qo j (by omega)
          · rw [fA_ne (by decide), fA_ne (by decide), fA_ne (by decide), fA_ne (by decide), q8, q9]
            unfold nsStep; rw [if_neg (by rw [hE]; decide), if_pos h0]
          · refine ⟨?_, ?_, ?_⟩
            · rw [fA_ne (by decide), fA_eq]; exact fU_eq
            · rw [fA_eq]; exact fU_eq
            · rw [fA_ne (by decide), fA_eq, fA_eq, fA_ne (by decide), q5, q6]; exact stk_ge (Nat.le_refl _) hs
          · rw [fA_ne (by decide), fA_ne (by decide)]; exact q7
          · rw [fU_eq, h14]; rfl
        · by_cases h77 : so i = 7
          · refine r_iload_n dX8_nests_92 rfl ?_
            refine r_bipush (v := nI 8) dX8_nests_93 (by decide) ?_
            first | refine r_icmp_ne_n (tgt := 113) dX8_nests_95 (by decide) (by omega) (by omega) (fun h95 => ?_) (fun h95 => by exfalso; omega) | refine r_icmp_ne_pn (tgt := 113) dX8_nests_95 (by decide) (by omega) (by omega) (fun h95 => ?_) (fun h95 => by exfalso; omega) | refine r_icmp_ne_pm (tgt := 113) dX8_nests_95 (by decide) (by omega) (fun h95 => ?_) (fun h95 => by exfalso; omega) | refine r_icmp_ne (tgt := 113) dX8_nests_95 (by decide) (fun h95 => ?_) (fun h95 => by exfalso; omega)
            refine r_iload_n dX8_nests_113 rfl ?_
            refine r_bipush (v := nI 9) dX8_nests_114 (by decide) ?_
            first | refine r_icmp_ne_n (tgt := 131) dX8_nests_116 (by decide) (by omega) (by omega) (fun h116 => ?_) (fun h116 => by exfalso; omega) | refine r_icmp_ne_pn (tgt := 131) dX8_nests_116 (by decide) (by omega) (by omega) (fun h116 => ?_) (fun h116 => by exfalso; omega) | refine r_icmp_ne_pm (tgt := 131) dX8_nests_116 (by decide) (by omega) (fun h116 => ?_) (fun h116 => by exfalso; omega) | refine r_icmp_ne (tgt := 131) dX8_nests_116 (by decide) (fun h116 => ?_) (fun h116 => by exfalso; omega)
            refine r_iload_n dX8_nests_131 rfl ?_
            refine r_if_eq_n (tgt := 147) dX8_nests_132 (by decide) (by omega) (fun h132 => by exfalso; omega) (fun h132 => ?_)
            refine r_iload_n dX8_nests_135 rfl ?_
            refine r_bipush (v := nI 7) dX8_nests_136 (by decide) ?_
            first | refine r_icmp_eq_n (tgt := 147) dX8_nests_138 (by decide) (by omega) (by omega) (fun h138 => ?_) (fun h138 => by exfalso; omega) | refine r_icmp_eq_pn (tgt := 147) dX8_nests_138 (by decide) (by omega) (by omega) (fun h138 => ?_) (fun h138 => by exfalso; omega) | refine r_icmp_eq_pm (tgt := 147) dX8_nests_138 (by decide) (by omega) (fun h138 => ?_) (fun h138 => by exfalso; omega) | refine r_icmp_eq (tgt := 147) dX8_nests_138 (by decide) (fun h138 => ?_) (fun h138 => by exfalso; omega)
            first | refine r_aload_n dX8_nests_147 rfl ?_ | refine r_aload_nq dX8_nests_147 rfl ?_ | refine r_aload_nN dX8_nests_147 rfl ?_
            refine r_getf f_X8_22_7 (by first | exact MAt.o (by assumption) | exact MAt.a1 (by assumption) | exact MAt.a2 (by assumption) | exact MAt.a3 (by assumption) | exact MAt.a4 (by assumption) | exact MAt.a5 (by assumption) | exact MAt.a6 (by assumption) | exact MAt.a7 (by assumption) | exact MAt.a8 (by assumption) | exact MAt.a9 (by assumption) | exact MAt.a10 (by assumption) | exact MAt.a11 (by assumption) | exact MAt.a12 (by assumption) | exact MAt.a13 (by assumption) | exact MAt.a14 (by assumption) | exact MAt.a15 (by assumption) | exact MAt.a16 (by assumption)) (by rfl) dX8_nests_148 ?_
            refine r_iload_n dX8_nests_151 rfl ?_
            refine r_iload_n dX8_nests_152 rfl ?_
            refine r_if_ne_n (tgt := 160) dX8_nests_153 (by decide) (by omega) (fun h153 => ?_) (fun h153 => by exfalso; omega)
            refine r_iload_n dX8_nests_160 rfl ?_
            refine r_bipush (v := nI 7) dX8_nests_161 (by decide) ?_
            first | refine r_icmp_ne_n (tgt := 171) dX8_nests_163 (by decide) (by omega) (by omega) (fun h163 => by exfalso; omega) (fun h163 => ?_) | refine r_icmp_ne_pn (tgt := 171) dX8_nests_163 (by decide) (by omega) (by omega) (fun h163 => by exfalso; omega) (fun h163 => ?_) | refine r_icmp_ne_pm (tgt := 171) dX8_nests_163 (by decide) (by omega) (fun h163 => by exfalso; omega) (fun h163 => ?_) | refine r_icmp_ne (tgt := 171) dX8_nests_163 (by decide) (fun h163 => by exfalso; omega) (fun h163 => ?_)
            refine r_bipush (v := nI 8) dX8_nests_166 (by decide) ?_
            refine r_goto (tgt := 173) dX8_nests_168 (by decide) ?_
            refine r_iast_n (by first | exact MAt.o (by assumption) | exact MAt.a1 (by assumption) | exact MAt.a2 (by assumption) | exact MAt.a3 (by assumption) | exact MAt.a4 (by assumption) | exact MAt.a5 (by assumption) | exact MAt.a6 (by assumption) | exact MAt.a7 (by assumption) | exact MAt.a8 (by assumption) | exact MAt.a9 (by assumption) | exact MAt.a10 (by assumption) | exact MAt.a11 (by assumption) | exact MAt.a12 (by assumption) | exact MAt.a13 (by assumption) | exact MAt.a14 (by assumption) | exact MAt.a15 (by assumption) | exact MAt.a16 (by assumption)) (by rfl) (by omega) (by omega) (by omega) dX8_nests_173 ?_
            first | refine MAt.g1 (by assumption) (fun M hM => ?_) | refine MAt.g2 (by assumption) (fun M hM => ?_) | refine MAt.g3 (by assumption) (fun M hM => ?_) | refine MAt.g4 (by assumption) (fun M hM => ?_) | refine MAt.g5 (by assumption) (fun M hM => ?_) | refine MAt.g6 (by assumption) (fun M hM => ?_) | refine MAt.g7 (by assumption) (fun M hM => ?_) | refine MAt.g8 (by assumption) (fun M hM => ?_) | refine MAt.g9 (by assumption) (fun M hM => ?_) | refine MAt.g16 (by assumption) (fun M hM => ?_) | refine MAt.g10 _ (by assumption) ?_ (fun M hM => ?_) | refine MAt.g11 _ (by assumption) ?_ (fun M hM => ?_) | refine MAt.g12 _ (by assumption) ?_ (fun M hM => ?_)
            first | refine r_aload_n dX8_nests_174 rfl ?_ | refine r_aload_nq dX8_nests_174 rfl ?_ | refine r_aload_nN dX8_nests_174 rfl ?_
            refine r_getf f_X8_25_7 (by first | exact MAt.o (by assumption) | exact MAt.a1 (by assumption) | exact MAt.a2 (by assumption) | exact MAt.a3 (by assumption) | exact MAt.a4 (by assumption) | exact MAt.a5 (by assumption) | exact MAt.a6 (by assumption) | exact MAt.a7 (by assumption) | exact MAt.a8 (by assumption) | exact MAt.a9 (by assumption) | exact MAt.a10 (by assumption) | exact MAt.a11 (by assumption) | exact MAt.a12 (by assumption) | exact MAt.a13 (by assumption) | exact MAt.a14 (by assumption) | exact MAt.a15 (by assumption) | exact MAt.a16 (by assumption)) (by rfl) dX8_nests_175 ?_
            refine r_iload_n dX8_nests_178 rfl ?_
            refine r_iload_n dX8_nests_179 rfl ?_
            refine r_bipush (v := nI 8) dX8_nests_180 (by decide) ?_
            first | refine r_icmp_ne_n (tgt := 194) dX8_nests_182 (by decide) (by omega) (by omega) (fun h182 => ?_) (fun h182 => by exfalso; omega) | refine r_icmp_ne_pn (tgt := 194) dX8_nests_182 (by decide) (by omega) (by omega) (fun h182 => ?_) (fun h182 => by exfalso; omega) | refine r_icmp_ne_pm (tgt := 194) dX8_nests_182 (by decide) (by omega) (fun h182 => ?_) (fun h182 => by exfalso; omega) | refine r_icmp_ne (tgt := 194) dX8_nests_182 (by decide) (fun h182 => ?_) (fun h182 => by exfalso; omega)
            refine r_iload_n dX8_nests_194 rfl ?_
            refine r_iast_n (by first | exact MAt.o (by assumption) | exact MAt.a1 (by assumption) | exact MAt.a2 (by assumption) | exact MAt.a3 (by assumption) | exact MAt.a4 (by assumption) | exact MAt.a5 (by assumption) | exact MAt.a6 (by assumption) | exact MAt.a7 (by assumption) | exact MAt.a8 (by assumption) | exact MAt.a9 (by assumption) | exact MAt.a10 (by assumption) | exact MAt.a11 (by assumption) | exact MAt.a12 (by assumption) | exact MAt.a13 (by assumption) | exact MAt.a14 (by assumption) | exact MAt.a15 (by assumption) | exact MAt.a16 (by assumption)) (by rfl) (by omega) (by omega) (by omega) dX8_nests_195 ?_
            first | refine MAt.g1 (by assumption) (fun M hM => ?_) | refine MAt.g2 (by assumption) (fun M hM => ?_) | refine MAt.g3 (by assumption) (fun M hM => ?_) | refine MAt.g4 (by assumption) (fun M hM => ?_) | refine MAt.g5 (by assumption) (fun M hM => ?_) | refine MAt.g6 (by assumption) (fun M hM => ?_) | refine MAt.g7 (by assumption) (fun M hM => ?_) | refine MAt.g8 (by assumption) (fun M hM => ?_) | refine MAt.g9 (by assumption) (fun M hM => ?_) | refine MAt.g16 (by assumption) (fun M hM => ?_) | refine MAt.g10 _ (by assumption) ?_ (fun M hM => ?_) | refine MAt.g11 _ (by assumption) ?_ (fun M hM => ?_) | refine MAt.g12 _ (by assumption) ?_ (fun M hM => ?_)
            first | refine r_iinc_n 1 dX8_nests_196 rfl (by decide) ?_ | refine r_iinc dX8_nests_196 rfl rfl (by decide) ?_
            simp only [mst1, mclr]
            first | refine r_aload_n dX8_nests_199 rfl ?_ | refine r_aload_nq dX8_nests_199 rfl ?_ | refine r_aload_nN dX8_nests_199 rfl ?_
            first | refine r_aload_n dX8_nests_200 rfl ?_ | refine r_aload_nq dX8_nests_200 rfl ?_ | refine r_aload_nN dX8_nests_200 rfl ?_
            refine r_getf f_X8_160_7 (by first | exact MAt.o (by assumption) | exact MAt.a1 (by assumption) | exact MAt.a2 (by assumption) | exact MAt.a3 (by assumption) | exact MAt.a4 (by assumption) | exact MAt.a5 (by assumption) | exact MAt.a6 (by assumption) | exact MAt.a7 (by assumption) | exact MAt.a8 (by assumption) | exact MAt.a9 (by assumption) | exact MAt.a10 (by assumption) | exact MAt.a11 (by assumption) | exact MAt.a12 (by assumption) | exact MAt.a13 (by assumption) | exact MAt.a14 (by assumption) | exact MAt.a15 (by assumption) | exact MAt.a16 (by assumption)) (by rfl) dX8_nests_201 ?_
            refine r_iload_n dX8_nests_204 rfl ?_
            refine r_callS s_X8_163_s dX8_nests_205 (by rfl) rfl (Nat.le_of_ble_eq_true rfl) (j_max _ _ (by omega) (by omega) ?_)
            refine mK_r ?_
            refine r_putf f_X8_160_7 ft_7_14 (by first | exact MAt.o (by assumption) | exact MAt.a1 (by assumption) | exact MAt.a2 (by assumption) | exact MAt.a3 (by assumption) | exact MAt.a4 (by assumption) | exact MAt.a5 (by assumption) | exact MAt.a6 (by assumption) | exact MAt.a7 (by assumption) | exact MAt.a8 (by assumption) | exact MAt.a9 (by assumption) | exact MAt.a10 (by assumption) | exact MAt.a11 (by assumption) | exact MAt.a12 (by assumption) | exact MAt.a13 (by assumption) | exact MAt.a14 (by assumption) | exact MAt.a15 (by assumption) | exact MAt.a16 (by assumption)) (by omega) (by first | rfl | exact bI_nar _) (by first | rfl | exact bI_fit _) dX8_nests_208 ?_
            refine MAt.p14 (by assumption) (fun M hM => ?_)
            refine nxt M _ _ ((8, i) :: st) _ hM (fun k hk => fU_ne hk) (fun j hj => ?_) ?_ ?_ ?_ (Or.inl ?_)
            · rw [fA_ne (by omega), fA_ne (by omega)]; exact qo j (by omega)
            · rw [fA_ne (by decide), fA_ne (by decide), fA_ne (by decide), fA_ne (by decide), q8, q9]
              unfold nsStep; rw [if_neg (by rw [hE]; decide), if_neg h0, if_pos h77]
            · refine ⟨?_, ?_, ?_⟩
              · rw [fA_ne (by decide), fA_eq]; exact fU_eq
              · rw [fA_eq]; exact fU_eq
              · rw [fA_ne (by decide), fA_eq, fA_eq, fA_ne (by decide), q5, q6]; exact stk_ge (Nat.le_refl _) hs
            · rw [fA_ne (by decide), fA_ne (by decide)]; exact q7
            · rw [fU_eq, h14]; rfl
          · refine r_iload_n dX8_nests_92 rfl ?_
            refine r_bipush (v := nI 8) dX8_nests_93 (by decide) ?_
            first | refine r_icmp_ne_n (tgt := 113) dX8_nests_95 (by decide) (by omega) (by omega) (fun h95 => ?_) (fun h95 => by exfalso; omega) | refine r_icmp_ne_pn (tgt := 113) dX8_nests_95 (by decide) (by omega) (by omega) (fun h95 => ?_) (fun h95 => by exfalso; omega) | refine r_icmp_ne_pm (tgt := 113) dX8_nests_95 (by decide) (by omega) (fun h95 => ?_) (fun h95 => by exfalso; omega) | refine r_icmp_ne (tgt := 113) dX8_nests_95 (by decide) (fun h95 => ?_) (fun h95 => by exfalso; omega)
            refine r_iload_n dX8_nests_113 rfl ?_
            refine r_bipush (v := nI 9) dX8_nests_114 (by decide) ?_
            first | refine r_icmp_ne_n (tgt := 131) dX8_nests_116 (by decide) (by omega) (by omega) (fun h116 => ?_) (fun h116 => by exfalso; omega) | refine r_icmp_ne_pn (tgt := 131) dX8_nests_116 (by decide) (by omega) (by omega) (fun h116 => ?_) (fun h116 => by exfalso; omega) | refine r_icmp_ne_pm (tgt := 131) dX8_nests_116 (by decide) (by omega) (fun h116 => ?_) (fun h116 => by exfalso; omega) | refine r_icmp_ne (tgt := 131) dX8_nests_116 (by decide) (fun h116 => ?_) (fun h116 => by exfalso; omega)
            refine r_iload_n dX8_nests_131 rfl ?_
            refine r_if_eq_n (tgt := 147) dX8_nests_132 (by decide) (by omega) (fun h132 => by exfalso; omega) (fun h132 => ?_)
            refine r_iload_n dX8_nests_135 rfl ?_
            refine r_bipush (v := nI 7) dX8_nests_136 (by decide) ?_
            first | refine r_icmp_eq_n (tgt := 147) dX8_nests_138 (by decide) (by omega) (by omega) (fun h138 => by exfalso; omega) (fun h138 => ?_) | refine r_icmp_eq_pn (tgt := 147) dX8_nests_138 (by decide) (by omega) (by omega) (fun h138 => by exfalso; omega) (fun h138 => ?_) | refine r_icmp_eq_pm (tgt := 147) dX8_nests_138 (by decide) (by omega) (fun h138 => by exfalso; omega) (fun h138 => ?_) | refine r_icmp_eq (tgt := 147) dX8_nests_138 (by decide) (fun h138 => by exfalso; omega) (fun h138 => ?_)
            refine r_iload_n dX8_nests_141 rfl ?_
            refine r_bipush (v := nI 8) dX8_nests_142 (by decide) ?_
            first | refine r_icmp_ne_n (tgt := 211) dX8_nests_144 (by decide) (by omega) (by omega) (fun h144 => ?_) (fun h144 => by exfalso; omega) | refine r_icmp_ne_pn (tgt := 211) dX8_nests_144 (by decide) (by omega) (by omega) (fun h144 => ?_) (fun h144 => by exfalso; omega) | refine r_icmp_ne_pm (tgt := 211) dX8_nests_144 (by decide) (by omega) (fun h144 => ?_) (fun h144 => by exfalso; omega) | refine r_icmp_ne (tgt := 211) dX8_nests_144 (by decide) (fun h144 => ?_) (fun h144 => by exfalso; omega)
            refine nxt M F' A1 st _ hM (fun _ _ => rfl) (fun j hj => qo j (by omega)) ?_ (by rw [q5, q6]; exact hs) q7 (Or.inr ⟨h14, Nat.le_refl _⟩)
            rw [q8, q9]
            unfold nsStep; rw [if_neg (by rw [hE]; decide), if_neg h0, if_neg h77]
      refine r_iload_n dX8_nests_9 rfl ?_
      first | refine r_aload_n dX8_nests_10 rfl ?_ | refine r_aload_nq dX8_nests_10 rfl ?_ | refine r_aload_nN dX8_nests_10 rfl ?_
      refine r_getf f_X8_9_7 (by first | exact MAt.o (by assumption) | exact MAt.a1 (by assumption) | exact MAt.a2 (by assumption) | exact MAt.a3 (by assumption) | exact MAt.a4 (by assumption) | exact MAt.a5 (by assumption) | exact MAt.a6 (by assumption) | exact MAt.a7 (by assumption) | exact MAt.a8 (by assumption) | exact MAt.a9 (by assumption) | exact MAt.a10 (by assumption) | exact MAt.a11 (by assumption) | exact MAt.a12 (by assumption) | exact MAt.a13 (by assumption) | exact MAt.a14 (by assumption) | exact MAt.a15 (by assumption) | exact MAt.a16 (by assumption)) (by rfl) dX8_nests_11 ?_
      refine r_iconst (v := nI 1) dX8_nests_14 (by decide) ?_
      refine r_iald_n (by first | exact MAt.o (by assumption) | exact MAt.a1 (by assumption) | exact MAt.a2 (by assumption) | exact MAt.a3 (by assumption) | exact MAt.a4 (by assumption) | exact MAt.a5 (by assumption) | exact MAt.a6 (by assumption) | exact MAt.a7 (by assumption) | exact MAt.a8 (by assumption) | exact MAt.a9 (by assumption) | exact MAt.a10 (by assumption) | exact MAt.a11 (by assumption) | exact MAt.a12 (by assumption) | exact MAt.a13 (by assumption) | exact MAt.a14 (by assumption) | exact MAt.a15 (by assumption) | exact MAt.a16 (by assumption)) (by rfl) (by omega) (by omega) dX8_nests_15 ?_
      first | refine r_icmp_ge_n (tgt := 217) dX8_nests_16 (by decide) (by omega) (by omega) (fun h16 => by exfalso; omega) (fun h16 => ?_) | refine r_icmp_ge (tgt := 217) dX8_nests_16 (by decide) (fun h16 => by exfalso; omega) (fun h16 => ?_)
      first | refine r_aload_n dX8_nests_19 rfl ?_ | refine r_aload_nq dX8_nests_19 rfl ?_ | refine r_aload_nN dX8_nests_19 rfl ?_
      refine r_iload_n dX8_nests_20 rfl ?_
      refine r_callV s_X8_110_v dX8_nests_21 (by first | exact MAt.o (by assumption) | exact MAt.a1 (by assumption) | exact MAt.a2 (by assumption) | exact MAt.a3 (by assumption) | exact MAt.a4 (by assumption) | exact MAt.a5 (by assumption) | exact MAt.a6 (by assumption) | exact MAt.a7 (by assumption) | exact MAt.a8 (by assumption) | exact MAt.a9 (by assumption) | exact MAt.a10 (by assumption) | exact MAt.a11 (by assumption) | exact MAt.a12 (by assumption) | exact MAt.a13 (by assumption) | exact MAt.a14 (by assumption) | exact MAt.a15 (by assumption) | exact MAt.a16 (by assumption)) (by rfl) rfl (Nat.le_of_ble_eq_true rfl) (m_sort hM i (by omega) ?_)
      refine mK_r ?_
      refine r_istore_n dX8_nests_24 (by decide) ?_
      simp only [mst1, mclr]
      rw [es]
      refine r_iload_n dX8_nests_25 rfl ?_
      refine r_iconst (v := nI 1) dX8_nests_26 (by decide) ?_
      first | refine r_icmp_eq_n (tgt := 42) dX8_nests_27 (by decide) (by omega) (by omega) (fun h27 => ?_) (fun h27 => ?_) | refine r_icmp_eq_pn (tgt := 42) dX8_nests_27 (by decide) (by omega) (by omega) (fun h27 => ?_) (fun h27 => ?_) | refine r_icmp_eq_pm (tgt := 42) dX8_nests_27 (by decide) (by omega) (fun h27 => ?_) (fun h27 => ?_) | refine r_icmp_eq (tgt := 42) dX8_nests_27 (by decide) (fun h27 => ?_) (fun h27 => ?_)
      · exact ends (decide_eq_true (Or.inl h27))
      refine r_iload_n dX8_nests_30 rfl ?_
      refine r_bipush (v := nI 8) dX8_nests_31 (by decide) ?_
      first | refine r_icmp_eq_n (tgt := 42) dX8_nests_33 (by decide) (by omega) (by omega) (fun h33 => ?_) (fun h33 => ?_) | refine r_icmp_eq_pn (tgt := 42) dX8_nests_33 (by decide) (by omega) (by omega) (fun h33 => ?_) (fun h33 => ?_) | refine r_icmp_eq_pm (tgt := 42) dX8_nests_33 (by decide) (by omega) (fun h33 => ?_) (fun h33 => ?_) | refine r_icmp_eq (tgt := 42) dX8_nests_33 (by decide) (fun h33 => ?_) (fun h33 => ?_)
      · exact ends (decide_eq_true (Or.inr (Or.inl h33)))
      refine r_iload_n dX8_nests_36 rfl ?_
      refine r_bipush (v := nI 9) dX8_nests_37 (by decide) ?_
      first | refine r_icmp_ne_n (tgt := 46) dX8_nests_39 (by decide) (by omega) (by omega) (fun h39 => ?_) (fun h39 => ?_) | refine r_icmp_ne_pn (tgt := 46) dX8_nests_39 (by decide) (by omega) (by omega) (fun h39 => ?_) (fun h39 => ?_) | refine r_icmp_ne_pm (tgt := 46) dX8_nests_39 (by decide) (by omega) (fun h39 => ?_) (fun h39 => ?_) | refine r_icmp_ne (tgt := 46) dX8_nests_39 (by decide) (fun h39 => ?_) (fun h39 => ?_)
      · exact noend (decide_eq_false (by omega))
      · exact ends (decide_eq_true (Or.inr (Or.inr h39)))
  refine r_iconst (v := nI 0) dX8_nests_0 (by decide) ?_
  refine r_istore_n dX8_nests_1 (by decide) ?_
  simp only [mst1, mclr]
  first | refine r_aload_n dX8_nests_2 rfl ?_ | refine r_aload_nq dX8_nests_2 rfl ?_ | refine r_aload_nN dX8_nests_2 rfl ?_
  refine r_iconst (v := nI 0) dX8_nests_3 (by decide) ?_
  refine r_putf f_X8_160_7 ft_7_14 (by first | exact MAt.o (by assumption) | exact MAt.a1 (by assumption) | exact MAt.a2 (by assumption) | exact MAt.a3 (by assumption) | exact MAt.a4 (by assumption) | exact MAt.a5 (by assumption) | exact MAt.a6 (by assumption) | exact MAt.a7 (by assumption) | exact MAt.a8 (by assumption) | exact MAt.a9 (by assumption) | exact MAt.a10 (by assumption) | exact MAt.a11 (by assumption) | exact MAt.a12 (by assumption) | exact MAt.a13 (by assumption) | exact MAt.a14 (by assumption) | exact MAt.a15 (by assumption) | exact MAt.a16 (by assumption)) (by omega) (by first | rfl | exact bI_nar _) (by first | rfl | exact bI_fit _) dX8_nests_4 ?_
  refine MAt.p14 (by assumption) (fun M hM => ?_)
  refine r_iconst (v := nI 0) dX8_nests_7 (by decide) ?_
  refine r_istore_n dX8_nests_8 (by decide) ?_
  simp only [mst1, mclr]
  exact loop (A 1 1) 0 M (fU F 14 0) A [] none none (by omega) hM (fun k hk => fU_ne hk) (fun _ _ => rfl) rfl trivial (fun k hk => absurd hk (Nat.not_lt_zero k)) rfl (Nat.le_refl _)
end MOD8
