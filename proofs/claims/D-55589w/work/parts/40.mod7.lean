/-! ===== the model, what is asked of goods and chests ===== -/
/-- how many numbers below n -/
def cntF (P : Nat → Bool) : Nat → Nat
  | 0 => 0
  | n + 1 => cntF P n + (if P n then 1 else 0)
theorem cntF_le (P : Nat → Bool) : ∀ n, cntF P n ≤ n
  | 0 => Nat.le_refl _
  | n + 1 => by have := cntF_le P n; unfold cntF; split <;> omega
theorem cntF_congr {P P' : Nat → Bool} : ∀ {n : Nat}, (∀ k, k < n → P k = P' k) → cntF P n = cntF P' n
  | 0, _ => rfl
  | n + 1, h => by unfold cntF; rw [cntF_congr (fun k hk => h k (by omega)), h n (by omega)]
/-- whether clause k is of one of two sorts and has the good -/
def clW (so on ot : Nat → Nat) (a b g k : Nat) : Bool := decide ((so k = a ∨ so k = b) ∧ cGood (so k) (on k) (ot k) = g + 1)
def wWith (W : WT) (a b g : Nat) : Nat := cntF (clW (wso W) (won W) (wot W) a b g) (wn W)
def wTi (W : WT) (g : Nat) : UInt32 := if wPl W g = 0 then FP.fconst0 else FP.fmul (FP.i2f (nI (ww W g))) (rtF (whu W (wk W g)))
def spGoodOf (X : XT) (g w : Int32) : Nat × Int32 :=
  let W := xW X; let i := g.toNatClampNeg
  if ¬ inB g (wm W) = true then (1, 0) else if ¬ inR w 0 5 = true then (2, 0)
  else (0, match w.toNatClampNeg with | 0 => nI (wk W i) | 1 => nI (ww W i) | 2 => pI (wPl W i) | 3 => nI (wWith W 2 2 i) | 4 => nI (wWith W 3 3 i) | _ => nI (wWith W 4 5 i))
def spChestAt (X : XT) (c p : Int32) : Nat × Int32 :=
  let W := xW X; let j := c.toNatClampNeg
  if ¬ inR c 0 2 = true then (1, 0) else if ¬ inB p (wcm W j) = true then (2, 0) else (0, nI (wch W j p.toNatClampNeg))
def spTithe (X : XT) (g : Int32) : Nat × UInt32 := if ¬ inB g (wm (xW X)) = true then (1, FP.fconst0) else (0, wTi (xW X) g.toNatClampNeg)
def spRateBits (X : XT) (c : Int32) : Nat × Int32 := if ¬ inR c 0 2 = true then (1, 0) else (0, (rtF (whu (xW X) c.toNatClampNeg)).toInt32)
section MOD7
variable {G : mG} {d : Nat} {B M : mM} {m t u th : Nat} {X : XT} {F : Nat → Nat} {D : Int32} {A : Nat → Nat → Nat} {Q : mQt}
theorem m_clausesWith (h : MAt B M m F D A) (a b g : Nat) (ha : a < 100) (hb : b < 100) (hg : g < 100) (hn : A 1 1 ≤ 24) (hc : ∀ k, k < A 1 1 → A 1 (37 + 3 * k) < 10 ∧ A 1 (38 + 3 * k) < 100 ∧ A 1 (39 + 3 * k) < 100)
   (hq : ∀ r : Int32, r = nI (cntF (clW (fun k => A 1 (37 + 3 * k)) (fun k => A 1 (38 + 3 * k)) (fun k => A 1 (39 + 3 * k)) a b g) (A 1 1)) → Q (.inl (some (.int r))) M t u) : mMet G (d + 2) zX8_clausesWith [.ref m, .int (nI g), .int (nI a), .int (nI b)] M t u Q := by
  refine m_intro (by decide +kernel) ⟨Nat.le_of_ble_eq_true rfl, Nat.le_of_ble_eq_true rfl⟩ ?_
  show mW G _ _ 0 [some (.ref m), some (.int (nI g)), some (.int (nI a)), some (.int (nI b)), none, none, none] [] _ _ _ _
  have loop : ∀ n i v, i + n = A 1 1 → mW G zX8_clausesWith (d + 2) 6 [some (.ref m), some (.int (nI g)), some (.int (nI a)), some (.int (nI b)), some (.int (nI (cntF (clW (fun k => A 1 (37 + 3 * k)) (fun k => A 1 (38 + 3 * k)) (fun k => A 1 (39 + 3 * k)) a b g) i))), some (.int (nI i)), v] [] M t u Q := by
    intro n
    induction n with
    | zero =>
      intro i v hi
      refine r_iload dX8_clausesWith_6 rfl ?_
      first | refine r_aload_n dX8_clausesWith_8 rfl ?_ | refine r_aload_nq dX8_clausesWith_8 rfl ?_ | refine r_aload_nN dX8_clausesWith_8 rfl ?_
      refine r_getf f_X8_9_7 (by first | exact MAt.o (by assumption) | exact MAt.a1 (by assumption) | exact MAt.a2 (by assumption) | exact MAt.a3 (by assumption) | exact MAt.a4 (by assumption) | exact MAt.a5 (by assumption) | exact MAt.a6 (by assumption) | exact MAt.a7 (by assumption) | exact MAt.a8 (by assumption) | exact MAt.a9 (by assumption) | exact MAt.a10 (by assumption) | exact MAt.a11 (by assumption) | exact MAt.a12 (by assumption) | exact MAt.a13 (by assumption) | exact MAt.a14 (by assumption) | exact MAt.a15 (by assumption) | exact MAt.a16 (by assumption)) (by rfl) dX8_clausesWith_9 ?_
      refine r_iconst (v := nI 1) dX8_clausesWith_12 (by decide) ?_
      refine r_iald_n (by first | exact MAt.o (by assumption) | exact MAt.a1 (by assumption) | exact MAt.a2 (by assumption) | exact MAt.a3 (by assumption) | exact MAt.a4 (by assumption) | exact MAt.a5 (by assumption) | exact MAt.a6 (by assumption) | exact MAt.a7 (by assumption) | exact MAt.a8 (by assumption) | exact MAt.a9 (by assumption) | exact MAt.a10 (by assumption) | exact MAt.a11 (by assumption) | exact MAt.a12 (by assumption) | exact MAt.a13 (by assumption) | exact MAt.a14 (by assumption) | exact MAt.a15 (by assumption) | exact MAt.a16 (by assumption)) (by rfl) (by omega) (by omega) dX8_clausesWith_13 ?_
      first | refine r_icmp_ge_n (tgt := 63) dX8_clausesWith_14 (by decide) (by omega) (by omega) (fun h14 => ?_) (fun h14 => by exfalso; omega) | refine r_icmp_ge (tgt := 63) dX8_clausesWith_14 (by decide) (fun h14 => ?_) (fun h14 => by exfalso; omega)
      refine r_iload dX8_clausesWith_63 rfl ?_
      refine r_iret rfl (by first | rfl | exact bI_nar _) dX8_clausesWith_65 ?_
      exact hq _ (by rw [← hi]; rfl)
    | succ n ih =>
      intro i v hi
      have hci := hc i (by omega)
      have yes : clW (fun k => A 1 (37 + 3 * k)) (fun k => A 1 (38 + 3 * k)) (fun k => A 1 (39 + 3 * k)) a b g i = true → mW G zX8_clausesWith (d + 2) 49 [some (.ref m), some (.int (nI g)), some (.int (nI a)), some (.int (nI b)), some (.int (nI (cntF (clW (fun k => A 1 (37 + 3 * k)) (fun k => A 1 (38 + 3 * k)) (fun k => A 1 (39 + 3 * k)) a b g) i))), some (.int (nI i)), some (.int (nI (A 1 (37 + 3 * i))))] [.int (nI (cntF (clW (fun k => A 1 (37 + 3 * k)) (fun k => A 1 (38 + 3 * k)) (fun k => A 1 (39 + 3 * k)) a b g) i))] M t u Q := by
        intro hx
        refine r_iconst (v := nI 1) dX8_clausesWith_49 (by decide) ?_
        refine r_goto (tgt := 54) dX8_clausesWith_50 (by decide) ?_
        first | refine r_iadd_n dX8_clausesWith_54 ?_ | refine r_iadd dX8_clausesWith_54 ?_
        refine r_istore dX8_clausesWith_55 (by decide) ?_
        simp only [mst1, mclr]
        first | refine r_iinc_n 1 dX8_clausesWith_57 rfl (by decide) ?_ | refine r_iinc dX8_clausesWith_57 rfl rfl (by decide) ?_
        simp only [mst1, mclr]
        refine r_goto (tgt := 6) dX8_clausesWith_60 (by decide) ?_
        have e := ih (i + 1) (some (.int (nI (A 1 (37 + 3 * i))))) (by omega)
        simp only [cntF, hx, if_true] at e
        exact e
      have no : clW (fun k => A 1 (37 + 3 * k)) (fun k => A 1 (38 + 3 * k)) (fun k => A 1 (39 + 3 * k)) a b g i = false → mW G zX8_clausesWith (d + 2) 53 [some (.ref m), some (.int (nI g)), some (.int (nI a)), some (.int (nI b)), some (.int (nI (cntF (clW (fun k => A 1 (37 + 3 * k)) (fun k => A 1 (38 + 3 * k)) (fun k => A 1 (39 + 3 * k)) a b g) i))), some (.int (nI i)), some (.int (nI (A 1 (37 + 3 * i))))] [.int (nI (cntF (clW (fun k => A 1 (37 + 3 * k)) (fun k => A 1 (38 + 3 * k)) (fun k => A 1 (39 + 3 * k)) a b g) i))] M t u Q := by
        intro hx
        refine r_iconst (v := nI 0) dX8_clausesWith_53 (by decide) ?_
        first | refine r_iadd_n dX8_clausesWith_54 ?_ | refine r_iadd dX8_clausesWith_54 ?_
        refine r_istore dX8_clausesWith_55 (by decide) ?_
        simp only [mst1, mclr]
        first | refine r_iinc_n 1 dX8_clausesWith_57 rfl (by decide) ?_ | refine r_iinc dX8_clausesWith_57 rfl rfl (by decide) ?_
        simp only [mst1, mclr]
        refine r_goto (tgt := 6) dX8_clausesWith_60 (by decide) ?_
        have e := ih (i + 1) (some (.int (nI (A 1 (37 + 3 * i))))) (by omega)
        simp only [cntF, hx] at e
        exact e
      have mid : (A 1 (37 + 3 * i) = a ∨ A 1 (37 + 3 * i) = b) → mW G zX8_clausesWith (d + 2) 39 [some (.ref m), some (.int (nI g)), some (.int (nI a)), some (.int (nI b)), some (.int (nI (cntF (clW (fun k => A 1 (37 + 3 * k)) (fun k => A 1 (38 + 3 * k)) (fun k => A 1 (39 + 3 * k)) a b g) i))), some (.int (nI i)), some (.int (nI (A 1 (37 + 3 * i))))] [.int (nI (cntF (clW (fun k => A 1 (37 + 3 * k)) (fun k => A 1 (38 + 3 * k)) (fun k => A 1 (39 + 3 * k)) a b g) i))] M t u Q := by
        intro hx
        have hcg : cGood (A 1 (37 + 3 * i)) (A 1 (38 + 3 * i)) (A 1 (39 + 3 * i)) < 200 := by unfold cGood; split; omega; split <;> omega
        first | refine r_aload_n dX8_clausesWith_39 rfl ?_ | refine r_aload_nq dX8_clausesWith_39 rfl ?_ | refine r_aload_nN dX8_clausesWith_39 rfl ?_
        refine r_iload dX8_clausesWith_40 rfl ?_
        refine r_callV s_X8_113_v dX8_clausesWith_42 (by first | exact MAt.o (by assumption) | exact MAt.a1 (by assumption) | exact MAt.a2 (by assumption) | exact MAt.a3 (by assumption) | exact MAt.a4 (by assumption) | exact MAt.a5 (by assumption) | exact MAt.a6 (by assumption) | exact MAt.a7 (by assumption) | exact MAt.a8 (by assumption) | exact MAt.a9 (by assumption) | exact MAt.a10 (by assumption) | exact MAt.a11 (by assumption) | exact MAt.a12 (by assumption) | exact MAt.a13 (by assumption) | exact MAt.a14 (by assumption) | exact MAt.a15 (by assumption) | exact MAt.a16 (by assumption)) (by rfl) rfl (Nat.le_of_ble_eq_true rfl) (m_goodIn h i (by omega) (by omega) (nm_e ?_))
        refine mK_r ?_
        refine r_iload_n dX8_clausesWith_45 rfl ?_
        first | refine r_icmp_ne_n (tgt := 53) dX8_clausesWith_46 (by decide) (by omega) (by omega) (fun h46 => ?_) (fun h46 => ?_) | refine r_icmp_ne_pn (tgt := 53) dX8_clausesWith_46 (by decide) (by omega) (by omega) (fun h46 => ?_) (fun h46 => ?_) | refine r_icmp_ne_pm (tgt := 53) dX8_clausesWith_46 (by decide) (by omega) (fun h46 => ?_) (fun h46 => ?_) | refine r_icmp_ne (tgt := 53) dX8_clausesWith_46 (by decide) (fun h46 => ?_) (fun h46 => ?_)
        · exact no (decide_eq_false (fun h => h46 h.2))
        · exact yes (decide_eq_true ⟨hx, h46⟩)
      refine r_iload dX8_clausesWith_6 rfl ?_
      first | refine r_aload_n dX8_clausesWith_8 rfl ?_ | refine r_aload_nq dX8_clausesWith_8 rfl ?_ | refine r_aload_nN dX8_clausesWith_8 rfl ?_
      refine r_getf f_X8_9_7 (by first | exact MAt.o (by assumption) | exact MAt.a1 (by assumption) | exact MAt.a2 (by assumption) | exact MAt.a3 (by assumption) | exact MAt.a4 (by assumption) | exact MAt.a5 (by assumption) | exact MAt.a6 (by assumption) | exact MAt.a7 (by assumption) | exact MAt.a8 (by assumption) | exact MAt.a9 (by assumption) | exact MAt.a10 (by assumption) | exact MAt.a11 (by assumption) | exact MAt.a12 (by assumption) | exact MAt.a13 (by assumption) | exact MAt.a14 (by assumption) | exact MAt.a15 (by assumption) | exact MAt.a16 (by assumption)) (by rfl) dX8_clausesWith_9 ?_
      refine r_iconst (v := nI 1) dX8_clausesWith_12 (by decide) ?_
      refine r_iald_n (by first | exact MAt.o (by assumption) | exact MAt.a1 (by assumption) | exact MAt.a2 (by assumption) | exact MAt.a3 (by assumption) | exact MAt.a4 (by assumption) | exact MAt.a5 (by assumption) | exact MAt.a6 (by assumption) | exact MAt.a7 (by assumption) | exact MAt.a8 (by assumption) | exact MAt.a9 (by assumption) | exact MAt.a10 (by assumption) | exact MAt.a11 (by assumption) | exact MAt.a12 (by assumption) | exact MAt.a13 (by assumption) | exact MAt.a14 (by assumption) | exact MAt.a15 (by assumption) | exact MAt.a16 (by assumption)) (by rfl) (by omega) (by omega) dX8_clausesWith_13 ?_
      first | refine r_icmp_ge_n (tgt := 63) dX8_clausesWith_14 (by decide) (by omega) (by omega) (fun h14 => by exfalso; omega) (fun h14 => ?_) | refine r_icmp_ge (tgt := 63) dX8_clausesWith_14 (by decide) (fun h14 => by exfalso; omega) (fun h14 => ?_)
      first | refine r_aload_n dX8_clausesWith_17 rfl ?_ | refine r_aload_nq dX8_clausesWith_17 rfl ?_ | refine r_aload_nN dX8_clausesWith_17 rfl ?_
      refine r_iload dX8_clausesWith_18 rfl ?_
      refine r_callV s_X8_110_v dX8_clausesWith_20 (by first | exact MAt.o (by assumption) | exact MAt.a1 (by assumption) | exact MAt.a2 (by assumption) | exact MAt.a3 (by assumption) | exact MAt.a4 (by assumption) | exact MAt.a5 (by assumption) | exact MAt.a6 (by assumption) | exact MAt.a7 (by assumption) | exact MAt.a8 (by assumption) | exact MAt.a9 (by assumption) | exact MAt.a10 (by assumption) | exact MAt.a11 (by assumption) | exact MAt.a12 (by assumption) | exact MAt.a13 (by assumption) | exact MAt.a14 (by assumption) | exact MAt.a15 (by assumption) | exact MAt.a16 (by assumption)) (by rfl) rfl (Nat.le_of_ble_eq_true rfl) (m_sort h i (by omega) ?_)
      refine mK_r ?_
      refine r_istore dX8_clausesWith_23 (by decide) ?_
      simp only [mst1, mclr]
      refine r_iload dX8_clausesWith_25 rfl ?_
      refine r_iload dX8_clausesWith_27 rfl ?_
      refine r_iload_n dX8_clausesWith_29 rfl ?_
      first | refine r_icmp_eq_n (tgt := 39) dX8_clausesWith_30 (by decide) (by omega) (by omega) (fun h30 => ?_) (fun h30 => ?_) | refine r_icmp_eq_pn (tgt := 39) dX8_clausesWith_30 (by decide) (by omega) (by omega) (fun h30 => ?_) (fun h30 => ?_) | refine r_icmp_eq_pm (tgt := 39) dX8_clausesWith_30 (by decide) (by omega) (fun h30 => ?_) (fun h30 => ?_) | refine r_icmp_eq (tgt := 39) dX8_clausesWith_30 (by decide) (fun h30 => ?_) (fun h30 => ?_)
      · exact mid (Or.inl h30)
      refine r_iload dX8_clausesWith_33 rfl ?_
      refine r_iload_n dX8_clausesWith_35 rfl ?_
      first | refine r_icmp_ne_n (tgt := 53) dX8_clausesWith_36 (by decide) (by omega) (by omega) (fun h36 => ?_) (fun h36 => ?_) | refine r_icmp_ne_pn (tgt := 53) dX8_clausesWith_36 (by decide) (by omega) (by omega) (fun h36 => ?_) (fun h36 => ?_) | refine r_icmp_ne_pm (tgt := 53) dX8_clausesWith_36 (by decide) (by omega) (fun h36 => ?_) (fun h36 => ?_) | refine r_icmp_ne (tgt := 53) dX8_clausesWith_36 (by decide) (fun h36 => ?_) (fun h36 => ?_)
      · exact no (decide_eq_false (fun h => by rcases h with ⟨h | h, _⟩; exact h30 h; exact h36 h))
      · exact mid (Or.inr h36)
  refine r_iconst (v := nI 0) dX8_clausesWith_0 (by decide) ?_
  refine r_istore dX8_clausesWith_1 (by decide) ?_
  simp only [mst1, mclr]
  refine r_iconst (v := nI 0) dX8_clausesWith_3 (by decide) ?_
  refine r_istore dX8_clausesWith_4 (by decide) ?_
  simp only [mst1, mclr]
  exact loop _ 0 _ (Nat.zero_add _)
/-- what a model between two calls is: its rows -/
theorem MX.un (h : MX B M m X th) : ∃ F A, MAt B M m F (xD X) A ∧ MP F A X ∧ mR (xW X) (A 1) ∧ F 6 = th := MX_iff.mp h
theorem m_goodOf (h : MX B M m X th) (hb : mGb G ≤ m) (g w : Int32) (hq : ∀ M, MX B M m X (spGoodOf X g w).1 → Q (.inl (some (.int (spGoodOf X g w).2))) M t u) : mMet G (d + 3) zX8_goodOf [.ref m, .int g, .int w] M t u Q := by
  refine m_intro (by decide +kernel) ⟨Nat.le_of_ble_eq_true rfl, Nat.le_of_ble_eq_true rfl⟩ ?_
  show mW G _ _ 0 [some (.ref m), some (.int g), some (.int w)] [] _ _ _ _
  obtain ⟨F, A, hM, hP, hR, h6⟩ := h.un
  obtain ⟨⟨e0, hm⟩, ⟨e1, hn⟩, ⟨e2, hcg⟩, e3, e4, e5⟩ := mR_up hP.1.1 hR
  unfold spGoodOf at hq
  first | refine r_aload_n dX8_goodOf_0 rfl ?_ | refine r_aload_nq dX8_goodOf_0 rfl ?_ | refine r_aload_nN dX8_goodOf_0 rfl ?_
  first | refine r_aload_n dX8_goodOf_1 rfl ?_ | refine r_aload_nq dX8_goodOf_1 rfl ?_ | refine r_aload_nN dX8_goodOf_1 rfl ?_
  refine r_iload_n dX8_goodOf_2 rfl ?_
  refine r_callV s_X8_100_v dX8_goodOf_3 (by first | exact MAt.o (by assumption) | exact MAt.a1 (by assumption) | exact MAt.a2 (by assumption) | exact MAt.a3 (by assumption) | exact MAt.a4 (by assumption) | exact MAt.a5 (by assumption) | exact MAt.a6 (by assumption) | exact MAt.a7 (by assumption) | exact MAt.a8 (by assumption) | exact MAt.a9 (by assumption) | exact MAt.a10 (by assumption) | exact MAt.a11 (by assumption) | exact MAt.a12 (by assumption) | exact MAt.a13 (by assumption) | exact MAt.a14 (by assumption) | exact MAt.a15 (by assumption) | exact MAt.a16 (by assumption)) (by rfl) rfl (Nat.le_of_ble_eq_true rfl) (m_isGood hM _ (nm_e ?_))
  refine mK_r ?_
  first | refine r_if_ne_b (tgt := 13) dX8_goodOf_6 (by decide) (fun h6 => ?_) (fun h6 => ?_) | refine r_if_ne_n (tgt := 13) dX8_goodOf_6 (by decide) (by omega) (fun h6 => ?_) (fun h6 => ?_) | refine r_if_ne (tgt := 13) dX8_goodOf_6 (by decide) (fun h6 => ?_) (fun h6 => ?_)
  rotate_left
  · rw [if_pos (by rw [← e0, h6]; decide)] at hq
    refine r_iconst (v := nI 1) dX8_goodOf_9 (by decide) ?_
    refine r_goto (tgt := 27) dX8_goodOf_10 (by decide) ?_
    refine r_putf f_X8_64_7 ft_7_6 (by first | exact MAt.o (by assumption) | exact MAt.a1 (by assumption) | exact MAt.a2 (by assumption) | exact MAt.a3 (by assumption) | exact MAt.a4 (by assumption) | exact MAt.a5 (by assumption) | exact MAt.a6 (by assumption) | exact MAt.a7 (by assumption) | exact MAt.a8 (by assumption) | exact MAt.a9 (by assumption) | exact MAt.a10 (by assumption) | exact MAt.a11 (by assumption) | exact MAt.a12 (by assumption) | exact MAt.a13 (by assumption) | exact MAt.a14 (by assumption) | exact MAt.a15 (by assumption) | exact MAt.a16 (by assumption)) (by omega) (by first | rfl | exact bI_nar _) (by first | rfl | exact bI_fit _) dX8_goodOf_27 ?_
    refine MAt.p6 (by assumption) (fun M hM => ?_)
    first | refine r_aload_n dX8_goodOf_30 rfl ?_ | refine r_aload_nq dX8_goodOf_30 rfl ?_ | refine r_aload_nN dX8_goodOf_30 rfl ?_
    refine r_getf f_X8_64_7 (by first | exact MAt.o (by assumption) | exact MAt.a1 (by assumption) | exact MAt.a2 (by assumption) | exact MAt.a3 (by assumption) | exact MAt.a4 (by assumption) | exact MAt.a5 (by assumption) | exact MAt.a6 (by assumption) | exact MAt.a7 (by assumption) | exact MAt.a8 (by assumption) | exact MAt.a9 (by assumption) | exact MAt.a10 (by assumption) | exact MAt.a11 (by assumption) | exact MAt.a12 (by assumption) | exact MAt.a13 (by assumption) | exact MAt.a14 (by assumption) | exact MAt.a15 (by assumption) | exact MAt.a16 (by assumption)) (by rfl) dX8_goodOf_31 ?_
    rw [fU_eq]
    first | refine r_if_le_n (tgt := 39) dX8_goodOf_34 (by decide) (by omega) (fun h34 => by exfalso; omega) (fun h34 => ?_) | refine r_if_le (tgt := 39) dX8_goodOf_34 (by decide) (fun h34 => by exfalso; omega) (fun h34 => ?_)
    refine r_iconst (v := nI 0) dX8_goodOf_37 (by decide) ?_
    refine r_iret rfl (by first | rfl | exact bI_nar _) dX8_goodOf_38 ?_
    exact hq _ (MX_iff.mpr ⟨_, _, hM, hP.f6 1, hR, rfl⟩)
  obtain ⟨i, hi, rfl⟩ := (inB_iff (by omega)).mp h6
  rw [e0] at h6 hi
  simp only [h6, not_true_eq_false, if_false, nI_cl (show i < 2147483648 by omega)] at hq
  refine r_iload_n dX8_goodOf_13 rfl ?_
  refine r_iconst (v := nI 0) dX8_goodOf_14 (by decide) ?_
  refine r_iconst (v := nI 5) dX8_goodOf_15 (by decide) ?_
  refine r_callS s_X8_82_s dX8_goodOf_16 (by rfl) rfl (Nat.le_of_ble_eq_true rfl) (m_in _ _ _ (nm_e ?_))
  refine mK_r ?_
  first | refine r_if_ne_b (tgt := 26) dX8_goodOf_19 (by decide) (fun h19 => ?_) (fun h19 => ?_) | refine r_if_ne_n (tgt := 26) dX8_goodOf_19 (by decide) (by omega) (fun h19 => ?_) (fun h19 => ?_) | refine r_if_ne (tgt := 26) dX8_goodOf_19 (by decide) (fun h19 => ?_) (fun h19 => ?_)
  rotate_left
  · rw [if_pos (by rw [show inR w 0 5 = false from h19]; decide)] at hq
    refine r_iconst (v := nI 2) dX8_goodOf_22 (by decide) ?_
    refine r_goto (tgt := 27) dX8_goodOf_23 (by decide) ?_
    refine r_putf f_X8_64_7 ft_7_6 (by first | exact MAt.o (by assumption) | exact MAt.a1 (by assumption) | exact MAt.a2 (by assumption) | exact MAt.a3 (by assumption) | exact MAt.a4 (by assumption) | exact MAt.a5 (by assumption) | exact MAt.a6 (by assumption) | exact MAt.a7 (by assumption) | exact MAt.a8 (by assumption) | exact MAt.a9 (by assumption) | exact MAt.a10 (by assumption) | exact MAt.a11 (by assumption) | exact MAt.a12 (by assumption) | exact MAt.a13 (by assumption) | exact MAt.a14 (by assumption) | exact MAt.a15 (by assumption) | exact MAt.a16 (by assumption)) (by omega) (by first | rfl | exact bI_nar _) (by first | rfl | exact bI_fit _) dX8_goodOf_27 ?_
    refine MAt.p6 (by assumption) (fun M hM => ?_)
    first | refine r_aload_n dX8_goodOf_30 rfl ?_ | refine r_aload_nq dX8_goodOf_30 rfl ?_ | refine r_aload_nN dX8_goodOf_30 rfl ?_
    refine r_getf f_X8_64_7 (by first | exact MAt.o (by assumption) | exact MAt.a1 (by assumption) | exact MAt.a2 (by assumption) | exact MAt.a3 (by assumption) | exact MAt.a4 (by assumption) | exact MAt.a5 (by assumption) | exact MAt.a6 (by assumption) | exact MAt.a7 (by assumption) | exact MAt.a8 (by assumption) | exact MAt.a9 (by assumption) | exact MAt.a10 (by assumption) | exact MAt.a11 (by assumption) | exact MAt.a12 (by assumption) | exact MAt.a13 (by assumption) | exact MAt.a14 (by assumption) | exact MAt.a15 (by assumption) | exact MAt.a16 (by assumption)) (by rfl) dX8_goodOf_31 ?_
    rw [fU_eq]
    first | refine r_if_le_n (tgt := 39) dX8_goodOf_34 (by decide) (by omega) (fun h34 => by exfalso; omega) (fun h34 => ?_) | refine r_if_le (tgt := 39) dX8_goodOf_34 (by decide) (fun h34 => by exfalso; omega) (fun h34 => ?_)
    refine r_iconst (v := nI 0) dX8_goodOf_37 (by decide) ?_
    refine r_iret rfl (by first | rfl | exact bI_nar _) dX8_goodOf_38 ?_
    exact hq _ (MX_iff.mpr ⟨_, _, hM, hP.f6 2, hR, rfl⟩)
  have h19 : inR w 0 5 = true := h19
  obtain ⟨w, _, hw, rfl⟩ := (inR_iff (lo := 0) (hi := 5) (by decide) (by decide)).mp h19
  have e4i := e4 i hi
  have e3i := e3 (wk (xW X) i) (by omega)
  simp only [h19, not_true_eq_false, if_false, nI_cl (show w < 2147483648 by omega)] at hq
  have hpl : plF (fun p => A 1 (9 + 4 * A 1 (21 + i) + p)) i (A 1 (6 + A 1 (21 + i))) = wPl (xW X) i := by
    rw [e4i.1, e3i.2.2.1]
    exact plF_congr (fun p hp => (e3i.2.2.2.2 p hp).1)
  have hb4 : A 1 (6 + A 1 (21 + i)) ≤ 4 := by rw [e4i.1]; omega
  have hbg : ∀ p, p < A 1 (6 + A 1 (21 + i)) → A 1 (9 + 4 * A 1 (21 + i) + p) < 8 := by
    rw [e4i.1]
    intro p hp
    have := e3i.2.2.2.2 p (by omega)
    omega
  have hcl : ∀ k, k < A 1 1 → A 1 (37 + 3 * k) < 10 ∧ A 1 (38 + 3 * k) < 100 ∧ A 1 (39 + 3 * k) < 100 := by
    intro k hk
    obtain ⟨a1, a2, a3, b1, b2, b3, b4, b5, b6⟩ := e5 k (by omega)
    omega
  have hcw : ∀ a b, cntF (clW (fun k => A 1 (37 + 3 * k)) (fun k => A 1 (38 + 3 * k)) (fun k => A 1 (39 + 3 * k)) a b i) (A 1 1) = wWith (xW X) a b i := by
    intro a b
    rw [e1]
    exact cntF_congr (fun k hk => by obtain ⟨a1, a2, a3, -⟩ := e5 k hk; simp only [clW, a1, a2, a3])
  have fin : ∀ M, MAt B M m (fU F 6 0) (xD X) A → MX B M m X 0 := fun M hM => MX_iff.mpr ⟨_, _, hM, hP.f6 0, hR, rfl⟩
  refine r_iconst (v := nI 0) dX8_goodOf_26 (by decide) ?_
  refine r_putf f_X8_64_7 ft_7_6 (by first | exact MAt.o (by assumption) | exact MAt.a1 (by assumption) | exact MAt.a2 (by assumption) | exact MAt.a3 (by assumption) | exact MAt.a4 (by assumption) | exact MAt.a5 (by assumption) | exact MAt.a6 (by assumption) | exact MAt.a7 (by assumption) | exact MAt.a8 (by assumption) | exact MAt.a9 (by assumption) | exact MAt.a10 (by assumption) | exact MAt.a11 (by assumption) | exact MAt.a12 (by assumption) | exact MAt.a13 (by assumption) | exact MAt.a14 (by assumption) | exact MAt.a15 (by assumption) | exact MAt.a16 (by assumption)) (by omega) (by first | rfl | exact bI_nar _) (by first | rfl | exact bI_fit _) dX8_goodOf_27 ?_
  refine MAt.p6 (by assumption) (fun M hM => ?_)
  first | refine r_aload_n dX8_goodOf_30 rfl ?_ | refine r_aload_nq dX8_goodOf_30 rfl ?_ | refine r_aload_nN dX8_goodOf_30 rfl ?_
  refine r_getf f_X8_64_7 (by first | exact MAt.o (by assumption) | exact MAt.a1 (by assumption) | exact MAt.a2 (by assumption) | exact MAt.a3 (by assumption) | exact MAt.a4 (by assumption) | exact MAt.a5 (by assumption) | exact MAt.a6 (by assumption) | exact MAt.a7 (by assumption) | exact MAt.a8 (by assumption) | exact MAt.a9 (by assumption) | exact MAt.a10 (by assumption) | exact MAt.a11 (by assumption) | exact MAt.a12 (by assumption) | exact MAt.a13 (by assumption) | exact MAt.a14 (by assumption) | exact MAt.a15 (by assumption) | exact MAt.a16 (by assumption)) (by rfl) dX8_goodOf_31 ?_
  rw [fU_eq]
  first | refine r_if_le_n (tgt := 39) dX8_goodOf_34 (by decide) (by omega) (fun h34 => ?_) (fun h34 => by exfalso; omega) | refine r_if_le (tgt := 39) dX8_goodOf_34 (by decide) (fun h34 => ?_) (fun h34 => by exfalso; omega)
  obtain rfl | rfl | rfl | rfl | rfl | rfl : w = 0 ∨ w = 1 ∨ w = 2 ∨ w = 3 ∨ w = 4 ∨ w = 5 := by omega
  · refine r_iload_n dX8_goodOf_39 rfl ?_
    refine r_tableIn (off := 36) (tgt := 76) dX8_goodOf_40 (by decide) (by decide) (by decide) (by decide) ?_
    first | refine r_aload_n dX8_goodOf_76 rfl ?_ | refine r_aload_nq dX8_goodOf_76 rfl ?_ | refine r_aload_nN dX8_goodOf_76 rfl ?_
    refine r_getf f_X8_9_7 (by first | exact MAt.o (by assumption) | exact MAt.a1 (by assumption) | exact MAt.a2 (by assumption) | exact MAt.a3 (by assumption) | exact MAt.a4 (by assumption) | exact MAt.a5 (by assumption) | exact MAt.a6 (by assumption) | exact MAt.a7 (by assumption) | exact MAt.a8 (by assumption) | exact MAt.a9 (by assumption) | exact MAt.a10 (by assumption) | exact MAt.a11 (by assumption) | exact MAt.a12 (by assumption) | exact MAt.a13 (by assumption) | exact MAt.a14 (by assumption) | exact MAt.a15 (by assumption) | exact MAt.a16 (by assumption)) (by rfl) dX8_goodOf_77 ?_
    refine r_bipush (v := nI 21) dX8_goodOf_80 (by decide) ?_
    refine r_iload_n dX8_goodOf_82 rfl ?_
    first | refine r_iadd_n dX8_goodOf_83 ?_ | refine r_iadd dX8_goodOf_83 ?_
    refine r_iald_n (by first | exact MAt.o (by assumption) | exact MAt.a1 (by assumption) | exact MAt.a2 (by assumption) | exact MAt.a3 (by assumption) | exact MAt.a4 (by assumption) | exact MAt.a5 (by assumption) | exact MAt.a6 (by assumption) | exact MAt.a7 (by assumption) | exact MAt.a8 (by assumption) | exact MAt.a9 (by assumption) | exact MAt.a10 (by assumption) | exact MAt.a11 (by assumption) | exact MAt.a12 (by assumption) | exact MAt.a13 (by assumption) | exact MAt.a14 (by assumption) | exact MAt.a15 (by assumption) | exact MAt.a16 (by assumption)) (by rfl) (by omega) (by omega) dX8_goodOf_84 ?_
    refine r_iret rfl (by first | rfl | exact bI_nar _) dX8_goodOf_85 ?_
    rw [e4i.1]; exact hq _ (fin _ hM)
  · refine r_iload_n dX8_goodOf_39 rfl ?_
    refine r_tableIn (off := 46) (tgt := 86) dX8_goodOf_40 (by decide) (by decide) (by decide) (by decide) ?_
    first | refine r_aload_n dX8_goodOf_86 rfl ?_ | refine r_aload_nq dX8_goodOf_86 rfl ?_ | refine r_aload_nN dX8_goodOf_86 rfl ?_
    refine r_getf f_X8_9_7 (by first | exact MAt.o (by assumption) | exact MAt.a1 (by assumption) | exact MAt.a2 (by assumption) | exact MAt.a3 (by assumption) | exact MAt.a4 (by assumption) | exact MAt.a5 (by assumption) | exact MAt.a6 (by assumption) | exact MAt.a7 (by assumption) | exact MAt.a8 (by assumption) | exact MAt.a9 (by assumption) | exact MAt.a10 (by assumption) | exact MAt.a11 (by assumption) | exact MAt.a12 (by assumption) | exact MAt.a13 (by assumption) | exact MAt.a14 (by assumption) | exact MAt.a15 (by assumption) | exact MAt.a16 (by assumption)) (by rfl) dX8_goodOf_87 ?_
    refine r_bipush (v := nI 29) dX8_goodOf_90 (by decide) ?_
    refine r_iload_n dX8_goodOf_92 rfl ?_
    first | refine r_iadd_n dX8_goodOf_93 ?_ | refine r_iadd dX8_goodOf_93 ?_
    refine r_iald_n (by first | exact MAt.o (by assumption) | exact MAt.a1 (by assumption) | exact MAt.a2 (by assumption) | exact MAt.a3 (by assumption) | exact MAt.a4 (by assumption) | exact MAt.a5 (by assumption) | exact MAt.a6 (by assumption) | exact MAt.a7 (by assumption) | exact MAt.a8 (by assumption) | exact MAt.a9 (by assumption) | exact MAt.a10 (by assumption) | exact MAt.a11 (by assumption) | exact MAt.a12 (by assumption) | exact MAt.a13 (by assumption) | exact MAt.a14 (by assumption) | exact MAt.a15 (by assumption) | exact MAt.a16 (by assumption)) (by rfl) (by omega) (by omega) dX8_goodOf_94 ?_
    refine r_iret rfl (by first | rfl | exact bI_nar _) dX8_goodOf_95 ?_
    rw [e4i.2.2.1]; exact hq _ (fin _ hM)
  · refine r_iload_n dX8_goodOf_39 rfl ?_
    refine r_tableIn (off := 56) (tgt := 96) dX8_goodOf_40 (by decide) (by decide) (by decide) (by decide) ?_
    first | refine r_aload_n dX8_goodOf_96 rfl ?_ | refine r_aload_nq dX8_goodOf_96 rfl ?_ | refine r_aload_nN dX8_goodOf_96 rfl ?_
    refine r_iload_n dX8_goodOf_97 rfl ?_
    refine r_callV s_X8_107_v dX8_goodOf_98 (by first | exact MAt.o (by assumption) | exact MAt.a1 (by assumption) | exact MAt.a2 (by assumption) | exact MAt.a3 (by assumption) | exact MAt.a4 (by assumption) | exact MAt.a5 (by assumption) | exact MAt.a6 (by assumption) | exact MAt.a7 (by assumption) | exact MAt.a8 (by assumption) | exact MAt.a9 (by assumption) | exact MAt.a10 (by assumption) | exact MAt.a11 (by assumption) | exact MAt.a12 (by assumption) | exact MAt.a13 (by assumption) | exact MAt.a14 (by assumption) | exact MAt.a15 (by assumption) | exact MAt.a16 (by assumption)) (by rfl) rfl (Nat.le_of_ble_eq_true rfl) (m_placeOf hM i (by omega) (by omega) hb4 hbg (fun r hr => ?_)) 
    rw [hpl] at hr; subst hr; refine mK_r ?_
    refine r_iret rfl (by first | rfl | exact bI_nar _) dX8_goodOf_101 ?_
    exact hq _ (fin _ hM)
  · refine r_iload_n dX8_goodOf_39 rfl ?_
    refine r_tableIn (off := 62) (tgt := 102) dX8_goodOf_40 (by decide) (by decide) (by decide) (by decide) ?_
    first | refine r_aload_n dX8_goodOf_102 rfl ?_ | refine r_aload_nq dX8_goodOf_102 rfl ?_ | refine r_aload_nN dX8_goodOf_102 rfl ?_
    refine r_iload_n dX8_goodOf_103 rfl ?_
    refine r_iconst (v := nI 2) dX8_goodOf_104 (by decide) ?_
    refine r_iconst (v := nI 2) dX8_goodOf_105 (by decide) ?_
    refine r_callV s_X8_116_v dX8_goodOf_106 (by first | exact MAt.o (by assumption) | exact MAt.a1 (by assumption) | exact MAt.a2 (by assumption) | exact MAt.a3 (by assumption) | exact MAt.a4 (by assumption) | exact MAt.a5 (by assumption) | exact MAt.a6 (by assumption) | exact MAt.a7 (by assumption) | exact MAt.a8 (by assumption) | exact MAt.a9 (by assumption) | exact MAt.a10 (by assumption) | exact MAt.a11 (by assumption) | exact MAt.a12 (by assumption) | exact MAt.a13 (by assumption) | exact MAt.a14 (by assumption) | exact MAt.a15 (by assumption) | exact MAt.a16 (by assumption)) (by rfl) rfl (Nat.le_of_ble_eq_true rfl) (m_clausesWith hM 2 2 i (by omega) (by omega) (by omega) (by omega) hcl (fun r hr => ?_)) 
    rw [hcw] at hr; subst hr; refine mK_r ?_
    refine r_iret rfl (by first | rfl | exact bI_nar _) dX8_goodOf_109 ?_
    exact hq _ (fin _ hM)
  · refine r_iload_n dX8_goodOf_39 rfl ?_
    refine r_tableIn (off := 70) (tgt := 110) dX8_goodOf_40 (by decide) (by decide) (by decide) (by decide) ?_
    first | refine r_aload_n dX8_goodOf_110 rfl ?_ | refine r_aload_nq dX8_goodOf_110 rfl ?_ | refine r_aload_nN dX8_goodOf_110 rfl ?_
    refine r_iload_n dX8_goodOf_111 rfl ?_
    refine r_iconst (v := nI 3) dX8_goodOf_112 (by decide) ?_
    refine r_iconst (v := nI 3) dX8_goodOf_113 (by decide) ?_
    refine r_callV s_X8_116_v dX8_goodOf_114 (by first | exact MAt.o (by assumption) | exact MAt.a1 (by assumption) | exact MAt.a2 (by assumption) | exact MAt.a3 (by assumption) | exact MAt.a4 (by assumption) | exact MAt.a5 (by assumption) | exact MAt.a6 (by assumption) | exact MAt.a7 (by assumption) | exact MAt.a8 (by assumption) | exact MAt.a9 (by assumption) | exact MAt.a10 (by assumption) | exact MAt.a11 (by assumption) | exact MAt.a12 (by assumption) | exact MAt.a13 (by assumption) | exact MAt.a14 (by assumption) | exact MAt.a15 (by assumption) | exact MAt.a16 (by assumption)) (by rfl) rfl (Nat.le_of_ble_eq_true rfl) (m_clausesWith hM 3 3 i (by omega) (by omega) (by omega) (by omega) hcl (fun r hr => ?_)) 
    rw [hcw] at hr; subst hr; refine mK_r ?_
    refine r_iret rfl (by first | rfl | exact bI_nar _) dX8_goodOf_117 ?_
    exact hq _ (fin _ hM)
  · refine r_iload_n dX8_goodOf_39 rfl ?_
    refine r_tableOut (tgt := 118) dX8_goodOf_40 (by decide) (by decide) ?_
    first | refine r_aload_n dX8_goodOf_118 rfl ?_ | refine r_aload_nq dX8_goodOf_118 rfl ?_ | refine r_aload_nN dX8_goodOf_118 rfl ?_
    refine r_iload_n dX8_goodOf_119 rfl ?_
    refine r_iconst (v := nI 4) dX8_goodOf_120 (by decide) ?_
    refine r_iconst (v := nI 5) dX8_goodOf_121 (by decide) ?_
    refine r_callV s_X8_116_v dX8_goodOf_122 (by first | exact MAt.o (by assumption) | exact MAt.a1 (by assumption) | exact MAt.a2 (by assumption) | exact MAt.a3 (by assumption) | exact MAt.a4 (by assumption) | exact MAt.a5 (by assumption) | exact MAt.a6 (by assumption) | exact MAt.a7 (by assumption) | exact MAt.a8 (by assumption) | exact MAt.a9 (by assumption) | exact MAt.a10 (by assumption) | exact MAt.a11 (by assumption) | exact MAt.a12 (by assumption) | exact MAt.a13 (by assumption) | exact MAt.a14 (by assumption) | exact MAt.a15 (by assumption) | exact MAt.a16 (by assumption)) (by rfl) rfl (Nat.le_of_ble_eq_true rfl) (m_clausesWith hM 4 5 i (by omega) (by omega) (by omega) (by omega) hcl (fun r hr => ?_)) 
    rw [hcw] at hr; subst hr; refine mK_r ?_
    refine r_iret rfl (by first | rfl | exact bI_nar _) dX8_goodOf_125 ?_
    exact hq _ (fin _ hM)
theorem m_chestAt (h : MX B M m X th) (hb : mGb G ≤ m) (c p : Int32) (hq : ∀ M, MX B M m X (spChestAt X c p).1 → Q (.inl (some (.int (spChestAt X c p).2))) M t u) : mMet G (d + 3) zX8_chestAt [.ref m, .int c, .int p] M t u Q := by
  refine m_intro (by decide +kernel) ⟨Nat.le_of_ble_eq_true rfl, Nat.le_of_ble_eq_true rfl⟩ ?_
  show mW G _ _ 0 [some (.ref m), some (.int c), some (.int p)] [] _ _ _ _
  obtain ⟨F, A, hM, hP, hR, h6⟩ := h.un
  obtain ⟨⟨e0, hm⟩, ⟨e1, hn⟩, ⟨e2, hcg⟩, e3, e4, e5⟩ := mR_up hP.1.1 hR
  unfold spChestAt at hq
  first | refine r_aload_n dX8_chestAt_0 rfl ?_ | refine r_aload_nq dX8_chestAt_0 rfl ?_ | refine r_aload_nN dX8_chestAt_0 rfl ?_
  refine r_iload_n dX8_chestAt_1 rfl ?_
  refine r_callS s_X8_104_s dX8_chestAt_2 (by rfl) rfl (Nat.le_of_ble_eq_true rfl) (m_isChest _ (nm_e ?_))
  refine mK_r ?_
  first | refine r_if_ne_b (tgt := 12) dX8_chestAt_5 (by decide) (fun h5 => ?_) (fun h5 => ?_) | refine r_if_ne_n (tgt := 12) dX8_chestAt_5 (by decide) (by omega) (fun h5 => ?_) (fun h5 => ?_) | refine r_if_ne (tgt := 12) dX8_chestAt_5 (by decide) (fun h5 => ?_) (fun h5 => ?_)
  rotate_left
  · rw [if_pos (by rw [h5]; decide)] at hq
    refine r_iconst (v := nI 1) dX8_chestAt_8 (by decide) ?_
    refine r_goto (tgt := 36) dX8_chestAt_9 (by decide) ?_
    refine r_putf f_X8_64_7 ft_7_6 (by first | exact MAt.o (by assumption) | exact MAt.a1 (by assumption) | exact MAt.a2 (by assumption) | exact MAt.a3 (by assumption) | exact MAt.a4 (by assumption) | exact MAt.a5 (by assumption) | exact MAt.a6 (by assumption) | exact MAt.a7 (by assumption) | exact MAt.a8 (by assumption) | exact MAt.a9 (by assumption) | exact MAt.a10 (by assumption) | exact MAt.a11 (by assumption) | exact MAt.a12 (by assumption) | exact MAt.a13 (by assumption) | exact MAt.a14 (by assumption) | exact MAt.a15 (by assumption) | exact MAt.a16 (by assumption)) (by omega) (by first | rfl | exact bI_nar _) (by first | rfl | exact bI_fit _) dX8_chestAt_36 ?_
    refine MAt.p6 (by assumption) (fun M hM => ?_)
    first | refine r_aload_n dX8_chestAt_39 rfl ?_ | refine r_aload_nq dX8_chestAt_39 rfl ?_ | refine r_aload_nN dX8_chestAt_39 rfl ?_
    refine r_getf f_X8_64_7 (by first | exact MAt.o (by assumption) | exact MAt.a1 (by assumption) | exact MAt.a2 (by assumption) | exact MAt.a3 (by assumption) | exact MAt.a4 (by assumption) | exact MAt.a5 (by assumption) | exact MAt.a6 (by assumption) | exact MAt.a7 (by assumption) | exact MAt.a8 (by assumption) | exact MAt.a9 (by assumption) | exact MAt.a10 (by assumption) | exact MAt.a11 (by assumption) | exact MAt.a12 (by assumption) | exact MAt.a13 (by assumption) | exact MAt.a14 (by assumption) | exact MAt.a15 (by assumption) | exact MAt.a16 (by assumption)) (by rfl) dX8_chestAt_40 ?_
    rw [fU_eq]
    first | refine r_if_le_n (tgt := 50) dX8_chestAt_43 (by decide) (by omega) (fun h43 => by exfalso; omega) (fun h43 => ?_) | refine r_if_le (tgt := 50) dX8_chestAt_43 (by decide) (fun h43 => by exfalso; omega) (fun h43 => ?_)
    refine r_iconst (v := nI 0) dX8_chestAt_46 (by decide) ?_
    refine r_goto (tgt := 63) dX8_chestAt_47 (by decide) ?_
    refine r_iret rfl (by first | rfl | exact bI_nar _) dX8_chestAt_63 ?_
    exact hq _ (MX_iff.mpr ⟨_, _, hM, hP.f6 1, hR, rfl⟩)
  obtain ⟨j, _, hj, rfl⟩ := (inR_iff (lo := 0) (hi := 2) (by decide) (by decide)).mp h5
  have e3j := e3 j (by omega)
  simp only [h5, not_true_eq_false, if_false, nI_cl (show j < 2147483648 by omega), ← e3j.2.2.1] at hq
  refine r_iload_n dX8_chestAt_12 rfl ?_
  refine r_iconst (v := nI 0) dX8_chestAt_13 (by decide) ?_
  first | refine r_aload_n dX8_chestAt_14 rfl ?_ | refine r_aload_nq dX8_chestAt_14 rfl ?_ | refine r_aload_nN dX8_chestAt_14 rfl ?_
  refine r_getf f_X8_9_7 (by first | exact MAt.o (by assumption) | exact MAt.a1 (by assumption) | exact MAt.a2 (by assumption) | exact MAt.a3 (by assumption) | exact MAt.a4 (by assumption) | exact MAt.a5 (by assumption) | exact MAt.a6 (by assumption) | exact MAt.a7 (by assumption) | exact MAt.a8 (by assumption) | exact MAt.a9 (by assumption) | exact MAt.a10 (by assumption) | exact MAt.a11 (by assumption) | exact MAt.a12 (by assumption) | exact MAt.a13 (by assumption) | exact MAt.a14 (by assumption) | exact MAt.a15 (by assumption) | exact MAt.a16 (by assumption)) (by rfl) dX8_chestAt_15 ?_
  refine r_bipush (v := nI 6) dX8_chestAt_18 (by decide) ?_
  refine r_iload_n dX8_chestAt_20 rfl ?_
  first | refine r_iadd_n dX8_chestAt_21 ?_ | refine r_iadd dX8_chestAt_21 ?_
  refine r_iald_n (by first | exact MAt.o (by assumption) | exact MAt.a1 (by assumption) | exact MAt.a2 (by assumption) | exact MAt.a3 (by assumption) | exact MAt.a4 (by assumption) | exact MAt.a5 (by assumption) | exact MAt.a6 (by assumption) | exact MAt.a7 (by assumption) | exact MAt.a8 (by assumption) | exact MAt.a9 (by assumption) | exact MAt.a10 (by assumption) | exact MAt.a11 (by assumption) | exact MAt.a12 (by assumption) | exact MAt.a13 (by assumption) | exact MAt.a14 (by assumption) | exact MAt.a15 (by assumption) | exact MAt.a16 (by assumption)) (by rfl) (by omega) (by omega) dX8_chestAt_22 ?_
  refine r_iconst (v := nI 1) dX8_chestAt_23 (by decide) ?_
  refine r_isub dX8_chestAt_24 ?_
  refine r_callS s_X8_82_s dX8_chestAt_25 (by rfl) rfl (Nat.le_of_ble_eq_true rfl) (m_in _ _ _ (nm_e ?_))
  refine mK_r ?_
  first | refine r_if_ne_b (tgt := 35) dX8_chestAt_28 (by decide) (fun h28 => ?_) (fun h28 => ?_) | refine r_if_ne_n (tgt := 35) dX8_chestAt_28 (by decide) (by omega) (fun h28 => ?_) (fun h28 => ?_) | refine r_if_ne (tgt := 35) dX8_chestAt_28 (by decide) (fun h28 => ?_) (fun h28 => ?_)
  rotate_left
  · rw [if_pos (by rw [show inB p (A 1 (6 + j)) = false from h28]; decide)] at hq
    refine r_iconst (v := nI 2) dX8_chestAt_31 (by decide) ?_
    refine r_goto (tgt := 36) dX8_chestAt_32 (by decide) ?_
    refine r_putf f_X8_64_7 ft_7_6 (by first | exact MAt.o (by assumption) | exact MAt.a1 (by assumption) | exact MAt.a2 (by assumption) | exact MAt.a3 (by assumption) | exact MAt.a4 (by assumption) | exact MAt.a5 (by assumption) | exact MAt.a6 (by assumption) | exact MAt.a7 (by assumption) | exact MAt.a8 (by assumption) | exact MAt.a9 (by assumption) | exact MAt.a10 (by assumption) | exact MAt.a11 (by assumption) | exact MAt.a12 (by assumption) | exact MAt.a13 (by assumption) | exact MAt.a14 (by assumption) | exact MAt.a15 (by assumption) | exact MAt.a16 (by assumption)) (by omega) (by first | rfl | exact bI_nar _) (by first | rfl | exact bI_fit _) dX8_chestAt_36 ?_
    refine MAt.p6 (by assumption) (fun M hM => ?_)
    first | refine r_aload_n dX8_chestAt_39 rfl ?_ | refine r_aload_nq dX8_chestAt_39 rfl ?_ | refine r_aload_nN dX8_chestAt_39 rfl ?_
    refine r_getf f_X8_64_7 (by first | exact MAt.o (by assumption) | exact MAt.a1 (by assumption) | exact MAt.a2 (by assumption) | exact MAt.a3 (by assumption) | exact MAt.a4 (by assumption) | exact MAt.a5 (by assumption) | exact MAt.a6 (by assumption) | exact MAt.a7 (by assumption) | exact MAt.a8 (by assumption) | exact MAt.a9 (by assumption) | exact MAt.a10 (by assumption) | exact MAt.a11 (by assumption) | exact MAt.a12 (by assumption) | exact MAt.a13 (by assumption) | exact MAt.a14 (by assumption) | exact MAt.a15 (by assumption) | exact MAt.a16 (by assumption)) (by rfl) dX8_chestAt_40 ?_
    rw [fU_eq]
    first | refine r_if_le_n (tgt := 50) dX8_chestAt_43 (by decide) (by omega) (fun h43 => by exfalso; omega) (fun h43 => ?_) | refine r_if_le (tgt := 50) dX8_chestAt_43 (by decide) (fun h43 => by exfalso; omega) (fun h43 => ?_)
    refine r_iconst (v := nI 0) dX8_chestAt_46 (by decide) ?_
    refine r_goto (tgt := 63) dX8_chestAt_47 (by decide) ?_
    refine r_iret rfl (by first | rfl | exact bI_nar _) dX8_chestAt_63 ?_
    exact hq _ (MX_iff.mpr ⟨_, _, hM, hP.f6 2, hR, rfl⟩)
  have h28 : inB p (A 1 (6 + j)) = true := h28
  obtain ⟨i, hi, rfl⟩ := (inB_iff (by omega)).mp h28
  have e3i := e3j.2.2.2.2 i (by omega)
  simp only [h28, not_true_eq_false, if_false, nI_cl (show i < 2147483648 by omega)] at hq
  refine r_iconst (v := nI 0) dX8_chestAt_35 (by decide) ?_
  refine r_putf f_X8_64_7 ft_7_6 (by first | exact MAt.o (by assumption) | exact MAt.a1 (by assumption) | exact MAt.a2 (by assumption) | exact MAt.a3 (by assumption) | exact MAt.a4 (by assumption) | exact MAt.a5 (by assumption) | exact MAt.a6 (by assumption) | exact MAt.a7 (by assumption) | exact MAt.a8 (by assumption) | exact MAt.a9 (by assumption) | exact MAt.a10 (by assumption) | exact MAt.a11 (by assumption) | exact MAt.a12 (by assumption) | exact MAt.a13 (by assumption) | exact MAt.a14 (by assumption) | exact MAt.a15 (by assumption) | exact MAt.a16 (by assumption)) (by omega) (by first | rfl | exact bI_nar _) (by first | rfl | exact bI_fit _) dX8_chestAt_36 ?_
  refine MAt.p6 (by assumption) (fun M hM => ?_)
  first | refine r_aload_n dX8_chestAt_39 rfl ?_ | refine r_aload_nq dX8_chestAt_39 rfl ?_ | refine r_aload_nN dX8_chestAt_39 rfl ?_
  refine r_getf f_X8_64_7 (by first | exact MAt.o (by assumption) | exact MAt.a1 (by assumption) | exact MAt.a2 (by assumption) | exact MAt.a3 (by assumption) | exact MAt.a4 (by assumption) | exact MAt.a5 (by assumption) | exact MAt.a6 (by assumption) | exact MAt.a7 (by assumption) | exact MAt.a8 (by assumption) | exact MAt.a9 (by assumption) | exact MAt.a10 (by assumption) | exact MAt.a11 (by assumption) | exact MAt.a12 (by assumption) | exact MAt.a13 (by assumption) | exact MAt.a14 (by assumption) | exact MAt.a15 (by assumption) | exact MAt.a16 (by assumption)) (by rfl) dX8_chestAt_40 ?_
  rw [fU_eq]
  first | refine r_if_le_n (tgt := 50) dX8_chestAt_43 (by decide) (by omega) (fun h43 => ?_) (fun h43 => by exfalso; omega) | refine r_if_le (tgt := 50) dX8_chestAt_43 (by decide) (fun h43 => ?_) (fun h43 => by exfalso; omega)
  first | refine r_aload_n dX8_chestAt_50 rfl ?_ | refine r_aload_nq dX8_chestAt_50 rfl ?_ | refine r_aload_nN dX8_chestAt_50 rfl ?_
  refine r_getf f_X8_9_7 (by first | exact MAt.o (by assumption) | exact MAt.a1 (by assumption) | exact MAt.a2 (by assumption) | exact MAt.a3 (by assumption) | exact MAt.a4 (by assumption) | exact MAt.a5 (by assumption) | exact MAt.a6 (by assumption) | exact MAt.a7 (by assumption) | exact MAt.a8 (by assumption) | exact MAt.a9 (by assumption) | exact MAt.a10 (by assumption) | exact MAt.a11 (by assumption) | exact MAt.a12 (by assumption) | exact MAt.a13 (by assumption) | exact MAt.a14 (by assumption) | exact MAt.a15 (by assumption) | exact MAt.a16 (by assumption)) (by rfl) dX8_chestAt_51 ?_
  refine r_bipush (v := nI 9) dX8_chestAt_54 (by decide) ?_
  refine r_iconst (v := nI 4) dX8_chestAt_56 (by decide) ?_
  refine r_iload_n dX8_chestAt_57 rfl ?_
  first | refine r_imul_n dX8_chestAt_58 ?_ | refine r_imul dX8_chestAt_58 ?_
  first | refine r_iadd_n dX8_chestAt_59 ?_ | refine r_iadd dX8_chestAt_59 ?_
  refine r_iload_n dX8_chestAt_60 rfl ?_
  first | refine r_iadd_n dX8_chestAt_61 ?_ | refine r_iadd dX8_chestAt_61 ?_
  refine r_iald_n (by first | exact MAt.o (by assumption) | exact MAt.a1 (by assumption) | exact MAt.a2 (by assumption) | exact MAt.a3 (by assumption) | exact MAt.a4 (by assumption) | exact MAt.a5 (by assumption) | exact MAt.a6 (by assumption) | exact MAt.a7 (by assumption) | exact MAt.a8 (by assumption) | exact MAt.a9 (by assumption) | exact MAt.a10 (by assumption) | exact MAt.a11 (by assumption) | exact MAt.a12 (by assumption) | exact MAt.a13 (by assumption) | exact MAt.a14 (by assumption) | exact MAt.a15 (by assumption) | exact MAt.a16 (by assumption)) (by rfl) (by omega) (by omega) dX8_chestAt_62 ?_
  refine r_iret rfl (by first | rfl | exact bI_nar _) dX8_chestAt_63 ?_
  rw [e3i.1]
  exact hq _ (MX_iff.mpr ⟨_, _, hM, hP.f6 0, hR, rfl⟩)
theorem m_rateOf (h : MAt B M m F D A) (c : Nat) (hc : c < 3) (hr : A 1 (3 + c) < 101) (hq : Q (.inl (some (.float (rtF (A 1 (3 + c)))))) M t u) : mMet G d zX8_rateOf [.ref m, .int (nI c)] M t u Q := by
  refine m_intro (by decide +kernel) ⟨Nat.le_of_ble_eq_true rfl, Nat.le_of_ble_eq_true rfl⟩ ?_
  show mW G _ _ 0 [some (.ref m), some (.int (nI c))] [] _ _ _ _
  first | refine r_aload_n dX8_rateOf_0 rfl ?_ | refine r_aload_nq dX8_rateOf_0 rfl ?_ | refine r_aload_nN dX8_rateOf_0 rfl ?_
  refine r_getf f_X8_9_7 (by first | exact MAt.o (by assumption) | exact MAt.a1 (by assumption) | exact MAt.a2 (by assumption) | exact MAt.a3 (by assumption) | exact MAt.a4 (by assumption) | exact MAt.a5 (by assumption) | exact MAt.a6 (by assumption) | exact MAt.a7 (by assumption) | exact MAt.a8 (by assumption) | exact MAt.a9 (by assumption) | exact MAt.a10 (by assumption) | exact MAt.a11 (by assumption) | exact MAt.a12 (by assumption) | exact MAt.a13 (by assumption) | exact MAt.a14 (by assumption) | exact MAt.a15 (by assumption) | exact MAt.a16 (by assumption)) (by rfl) dX8_rateOf_1 ?_
  refine r_iconst (v := nI 3) dX8_rateOf_4 (by decide) ?_
  refine r_iload_n dX8_rateOf_5 rfl ?_
  first | refine r_iadd_n dX8_rateOf_6 ?_ | refine r_iadd dX8_rateOf_6 ?_
  refine r_iald_n (by first | exact MAt.o (by assumption) | exact MAt.a1 (by assumption) | exact MAt.a2 (by assumption) | exact MAt.a3 (by assumption) | exact MAt.a4 (by assumption) | exact MAt.a5 (by assumption) | exact MAt.a6 (by assumption) | exact MAt.a7 (by assumption) | exact MAt.a8 (by assumption) | exact MAt.a9 (by assumption) | exact MAt.a10 (by assumption) | exact MAt.a11 (by assumption) | exact MAt.a12 (by assumption) | exact MAt.a13 (by assumption) | exact MAt.a14 (by assumption) | exact MAt.a15 (by assumption) | exact MAt.a16 (by assumption)) (by rfl) (by omega) (by omega) dX8_rateOf_7 ?_
  refine r_i2f dX8_rateOf_8 ?_
  refine r_ldcf dX8_rateOf_9 q1911 ?_
  refine r_fdiv dX8_rateOf_11 ((rtF_q hr).p.n) ?_
  refine r_fret rfl dX8_rateOf_12 ?_
  exact hq
theorem m_titheOf (h : MAt B M m F D A) {W : WT} (hw : wOk W) (hR : mR W (A 1)) (i : Nat) (hi : i < wm W) (hq : ∀ r : UInt32, r = wTi W i → Q (.inl (some (.float r))) M t u) : mMet G (d + 1) zX8_titheOf [.ref m, .int (nI i)] M t u Q := by
  refine m_intro (by decide +kernel) ⟨Nat.le_of_ble_eq_true rfl, Nat.le_of_ble_eq_true rfl⟩ ?_
  show mW G _ _ 0 [some (.ref m), some (.int (nI i))] [] _ _ _ _
  obtain ⟨⟨e0, hm⟩, ⟨e1, hn⟩, ⟨e2, hcg⟩, e3, e4, e5⟩ := mR_up hw hR
  have e4i := e4 i hi
  have e3i := e3 (wk W i) (by omega)
  have hpl : plF (fun p => A 1 (9 + 4 * A 1 (21 + i) + p)) i (A 1 (6 + A 1 (21 + i))) = wPl W i := by
    rw [e4i.1, e3i.2.2.1]
    exact plF_congr (fun p hp => (e3i.2.2.2.2 p hp).1)
  have hple := plF_le (fun p => A 1 (9 + 4 * A 1 (21 + i) + p)) i (A 1 (6 + A 1 (21 + i)))
  rw [hpl] at hple
  have hb4 : A 1 (6 + A 1 (21 + i)) ≤ 4 := by rw [e4i.1]; omega
  have hbg : ∀ p, p < A 1 (6 + A 1 (21 + i)) → A 1 (9 + 4 * A 1 (21 + i) + p) < 8 := by
    rw [e4i.1]
    intro p hp
    have := e3i.2.2.2.2 p (by omega)
    omega
  first | refine r_aload_n dX8_titheOf_0 rfl ?_ | refine r_aload_nq dX8_titheOf_0 rfl ?_ | refine r_aload_nN dX8_titheOf_0 rfl ?_
  refine r_iload_n dX8_titheOf_1 rfl ?_
  refine r_callV s_X8_107_v dX8_titheOf_2 (by first | exact MAt.o (by assumption) | exact MAt.a1 (by assumption) | exact MAt.a2 (by assumption) | exact MAt.a3 (by assumption) | exact MAt.a4 (by assumption) | exact MAt.a5 (by assumption) | exact MAt.a6 (by assumption) | exact MAt.a7 (by assumption) | exact MAt.a8 (by assumption) | exact MAt.a9 (by assumption) | exact MAt.a10 (by assumption) | exact MAt.a11 (by assumption) | exact MAt.a12 (by assumption) | exact MAt.a13 (by assumption) | exact MAt.a14 (by assumption) | exact MAt.a15 (by assumption) | exact MAt.a16 (by assumption)) (by rfl) rfl (Nat.le_of_ble_eq_true rfl) (m_placeOf h i (by omega) (by omega) hb4 hbg (fun r hr => ?_)) 
  rw [hpl] at hr; subst hr; refine mK_r ?_
  first | refine r_if_ge_p (tgt := 12) dX8_titheOf_5 (by decide) (by omega) (fun h5 => ?_) (fun h5 => ?_) | refine r_if_ge_n (tgt := 12) dX8_titheOf_5 (by decide) (by omega) ?_ | refine r_if_ge (tgt := 12) dX8_titheOf_5 (by decide) (fun h5 => ?_) (fun h5 => ?_)
  · first | refine r_aload_n dX8_titheOf_12 rfl ?_ | refine r_aload_nq dX8_titheOf_12 rfl ?_ | refine r_aload_nN dX8_titheOf_12 rfl ?_
    refine r_getf f_X8_9_7 (by first | exact MAt.o (by assumption) | exact MAt.a1 (by assumption) | exact MAt.a2 (by assumption) | exact MAt.a3 (by assumption) | exact MAt.a4 (by assumption) | exact MAt.a5 (by assumption) | exact MAt.a6 (by assumption) | exact MAt.a7 (by assumption) | exact MAt.a8 (by assumption) | exact MAt.a9 (by assumption) | exact MAt.a10 (by assumption) | exact MAt.a11 (by assumption) | exact MAt.a12 (by assumption) | exact MAt.a13 (by assumption) | exact MAt.a14 (by assumption) | exact MAt.a15 (by assumption) | exact MAt.a16 (by assumption)) (by rfl) dX8_titheOf_13 ?_
    refine r_bipush (v := nI 29) dX8_titheOf_16 (by decide) ?_
    refine r_iload_n dX8_titheOf_18 rfl ?_
    first | refine r_iadd_n dX8_titheOf_19 ?_ | refine r_iadd dX8_titheOf_19 ?_
    refine r_iald_n (by first | exact MAt.o (by assumption) | exact MAt.a1 (by assumption) | exact MAt.a2 (by assumption) | exact MAt.a3 (by assumption) | exact MAt.a4 (by assumption) | exact MAt.a5 (by assumption) | exact MAt.a6 (by assumption) | exact MAt.a7 (by assumption) | exact MAt.a8 (by assumption) | exact MAt.a9 (by assumption) | exact MAt.a10 (by assumption) | exact MAt.a11 (by assumption) | exact MAt.a12 (by assumption) | exact MAt.a13 (by assumption) | exact MAt.a14 (by assumption) | exact MAt.a15 (by assumption) | exact MAt.a16 (by assumption)) (by rfl) (by omega) (by omega) dX8_titheOf_20 ?_
    refine r_i2f dX8_titheOf_21 ?_
    first | refine r_aload_n dX8_titheOf_22 rfl ?_ | refine r_aload_nq dX8_titheOf_22 rfl ?_ | refine r_aload_nN dX8_titheOf_22 rfl ?_
    first | refine r_aload_n dX8_titheOf_23 rfl ?_ | refine r_aload_nq dX8_titheOf_23 rfl ?_ | refine r_aload_nN dX8_titheOf_23 rfl ?_
    refine r_getf f_X8_9_7 (by first | exact MAt.o (by assumption) | exact MAt.a1 (by assumption) | exact MAt.a2 (by assumption) | exact MAt.a3 (by assumption) | exact MAt.a4 (by assumption) | exact MAt.a5 (by assumption) | exact MAt.a6 (by assumption) | exact MAt.a7 (by assumption) | exact MAt.a8 (by assumption) | exact MAt.a9 (by assumption) | exact MAt.a10 (by assumption) | exact MAt.a11 (by assumption) | exact MAt.a12 (by assumption) | exact MAt.a13 (by assumption) | exact MAt.a14 (by assumption) | exact MAt.a15 (by assumption) | exact MAt.a16 (by assumption)) (by rfl) dX8_titheOf_24 ?_
    refine r_bipush (v := nI 21) dX8_titheOf_27 (by decide) ?_
    refine r_iload_n dX8_titheOf_29 rfl ?_
    first | refine r_iadd_n dX8_titheOf_30 ?_ | refine r_iadd dX8_titheOf_30 ?_
    refine r_iald_n (by first | exact MAt.o (by assumption) | exact MAt.a1 (by assumption) | exact MAt.a2 (by assumption) | exact MAt.a3 (by assumption) | exact MAt.a4 (by assumption) | exact MAt.a5 (by assumption) | exact MAt.a6 (by assumption) | exact MAt.a7 (by assumption) | exact MAt.a8 (by assumption) | exact MAt.a9 (by assumption) | exact MAt.a10 (by assumption) | exact MAt.a11 (by assumption) | exact MAt.a12 (by assumption) | exact MAt.a13 (by assumption) | exact MAt.a14 (by assumption) | exact MAt.a15 (by assumption) | exact MAt.a16 (by assumption)) (by rfl) (by omega) (by omega) dX8_titheOf_31 ?_
    refine r_callV s_X8_120_v dX8_titheOf_32 (by first | exact MAt.o (by assumption) | exact MAt.a1 (by assumption) | exact MAt.a2 (by assumption) | exact MAt.a3 (by assumption) | exact MAt.a4 (by assumption) | exact MAt.a5 (by assumption) | exact MAt.a6 (by assumption) | exact MAt.a7 (by assumption) | exact MAt.a8 (by assumption) | exact MAt.a9 (by assumption) | exact MAt.a10 (by assumption) | exact MAt.a11 (by assumption) | exact MAt.a12 (by assumption) | exact MAt.a13 (by assumption) | exact MAt.a14 (by assumption) | exact MAt.a15 (by assumption) | exact MAt.a16 (by assumption)) (by rfl) rfl (Nat.le_of_ble_eq_true rfl) (m_rateOf h (A 1 (21 + i)) (by omega) (by rw [e4i.1]; omega) ?_)
    refine mK_r ?_
    refine r_fmul dX8_titheOf_35 (fP.n (fP_mul (i2f_q (by omega)) (rtF_q (by rw [e4i.1]; omega)))) ?_
    refine r_fret rfl dX8_titheOf_36 ?_
    exact hq _ (by unfold wTi; rw [if_neg (by omega), e4i.1, e4i.2.2.1, e3i.1])
  · refine r_fconst0 dX8_titheOf_8 ?_
    refine r_goto (tgt := 36) dX8_titheOf_9 (by decide) ?_
    refine r_fret rfl dX8_titheOf_36 ?_
    exact hq _ (by unfold wTi; rw [if_pos (by omega)])
theorem m_tithe (h : MX B M m X th) (hb : mGb G ≤ m) (g : Int32) (hq : ∀ M, MX B M m X (spTithe X g).1 → Q (.inl (some (.float (spTithe X g).2))) M t u) : mMet G (d + 2) zX8_tithe [.ref m, .int g] M t u Q := by
  refine m_intro (by decide +kernel) ⟨Nat.le_of_ble_eq_true rfl, Nat.le_of_ble_eq_true rfl⟩ ?_
  show mW G _ _ 0 [some (.ref m), some (.int g)] [] _ _ _ _
  obtain ⟨F, A, hM, hP, hR, h6⟩ := h.un
  obtain ⟨⟨e0, hm⟩, ⟨e1, hn⟩, ⟨e2, hcg⟩, e3, e4, e5⟩ := mR_up hP.1.1 hR
  unfold spTithe at hq
  first | refine r_aload_n dX8_tithe_0 rfl ?_ | refine r_aload_nq dX8_tithe_0 rfl ?_ | refine r_aload_nN dX8_tithe_0 rfl ?_
  first | refine r_aload_n dX8_tithe_1 rfl ?_ | refine r_aload_nq dX8_tithe_1 rfl ?_ | refine r_aload_nN dX8_tithe_1 rfl ?_
  refine r_iload_n dX8_tithe_2 rfl ?_
  refine r_callV s_X8_100_v dX8_tithe_3 (by first | exact MAt.o (by assumption) | exact MAt.a1 (by assumption) | exact MAt.a2 (by assumption) | exact MAt.a3 (by assumption) | exact MAt.a4 (by assumption) | exact MAt.a5 (by assumption) | exact MAt.a6 (by assumption) | exact MAt.a7 (by assumption) | exact MAt.a8 (by assumption) | exact MAt.a9 (by assumption) | exact MAt.a10 (by assumption) | exact MAt.a11 (by assumption) | exact MAt.a12 (by assumption) | exact MAt.a13 (by assumption) | exact MAt.a14 (by assumption) | exact MAt.a15 (by assumption) | exact MAt.a16 (by assumption)) (by rfl) rfl (Nat.le_of_ble_eq_true rfl) (m_isGood hM _ (nm_e ?_))
  refine mK_r ?_
  first | refine r_if_eq_b (tgt := 13) dX8_tithe_6 (by decide) (fun h6 => ?_) (fun h6 => ?_) | refine r_if_eq_n (tgt := 13) dX8_tithe_6 (by decide) (by omega) (fun h6 => ?_) (fun h6 => ?_) | refine r_if_eq (tgt := 13) dX8_tithe_6 (by decide) (fun h6 => ?_) (fun h6 => ?_)
  · rw [if_pos (by rw [← e0, h6]; decide)] at hq
    refine r_iconst (v := nI 1) dX8_tithe_13 (by decide) ?_
    refine r_putf f_X8_64_7 ft_7_6 (by first | exact MAt.o (by assumption) | exact MAt.a1 (by assumption) | exact MAt.a2 (by assumption) | exact MAt.a3 (by assumption) | exact MAt.a4 (by assumption) | exact MAt.a5 (by assumption) | exact MAt.a6 (by assumption) | exact MAt.a7 (by assumption) | exact MAt.a8 (by assumption) | exact MAt.a9 (by assumption) | exact MAt.a10 (by assumption) | exact MAt.a11 (by assumption) | exact MAt.a12 (by assumption) | exact MAt.a13 (by assumption) | exact MAt.a14 (by assumption) | exact MAt.a15 (by assumption) | exact MAt.a16 (by assumption)) (by omega) (by first | rfl | exact bI_nar _) (by first | rfl | exact bI_fit _) dX8_tithe_14 ?_
    refine MAt.p6 (by assumption) (fun M hM => ?_)
    first | refine r_aload_n dX8_tithe_17 rfl ?_ | refine r_aload_nq dX8_tithe_17 rfl ?_ | refine r_aload_nN dX8_tithe_17 rfl ?_
    refine r_getf f_X8_64_7 (by first | exact MAt.o (by assumption) | exact MAt.a1 (by assumption) | exact MAt.a2 (by assumption) | exact MAt.a3 (by assumption) | exact MAt.a4 (by assumption) | exact MAt.a5 (by assumption) | exact MAt.a6 (by assumption) | exact MAt.a7 (by assumption) | exact MAt.a8 (by assumption) | exact MAt.a9 (by assumption) | exact MAt.a10 (by assumption) | exact MAt.a11 (by assumption) | exact MAt.a12 (by assumption) | exact MAt.a13 (by assumption) | exact MAt.a14 (by assumption) | exact MAt.a15 (by assumption) | exact MAt.a16 (by assumption)) (by rfl) dX8_tithe_18 ?_
    rw [fU_eq]
    first | refine r_if_le_n (tgt := 28) dX8_tithe_21 (by decide) (by omega) (fun h21 => by exfalso; omega) (fun h21 => ?_) | refine r_if_le (tgt := 28) dX8_tithe_21 (by decide) (fun h21 => by exfalso; omega) (fun h21 => ?_)
    refine r_fconst0 dX8_tithe_24 ?_
    refine r_goto (tgt := 33) dX8_tithe_25 (by decide) ?_
    refine r_fret rfl dX8_tithe_33 ?_
    exact hq _ (MX_iff.mpr ⟨_, _, hM, hP.f6 1, hR, rfl⟩)
  obtain ⟨i, hi, rfl⟩ := (inB_iff (by omega)).mp h6
  rw [e0] at h6 hi
  simp only [h6, not_true_eq_false, if_false, nI_cl (show i < 2147483648 by omega)] at hq
  refine r_iconst (v := nI 0) dX8_tithe_9 (by decide) ?_
  refine r_goto (tgt := 14) dX8_tithe_10 (by decide) ?_
  refine r_putf f_X8_64_7 ft_7_6 (by first | exact MAt.o (by assumption) | exact MAt.a1 (by assumption) | exact MAt.a2 (by assumption) | exact MAt.a3 (by assumption) | exact MAt.a4 (by assumption) | exact MAt.a5 (by assumption) | exact MAt.a6 (by assumption) | exact MAt.a7 (by assumption) | exact MAt.a8 (by assumption) | exact MAt.a9 (by assumption) | exact MAt.a10 (by assumption) | exact MAt.a11 (by assumption) | exact MAt.a12 (by assumption) | exact MAt.a13 (by assumption) | exact MAt.a14 (by assumption) | exact MAt.a15 (by assumption) | exact MAt.a16 (by assumption)) (by omega) (by first | rfl | exact bI_nar _) (by first | rfl | exact bI_fit _) dX8_tithe_14 ?_
  refine MAt.p6 (by assumption) (fun M hM => ?_)
  first | refine r_aload_n dX8_tithe_17 rfl ?_ | refine r_aload_nq dX8_tithe_17 rfl ?_ | refine r_aload_nN dX8_tithe_17 rfl ?_
  refine r_getf f_X8_64_7 (by first | exact MAt.o (by assumption) | exact MAt.a1 (by assumption) | exact MAt.a2 (by assumption) | exact MAt.a3 (by assumption) | exact MAt.a4 (by assumption) | exact MAt.a5 (by assumption) | exact MAt.a6 (by assumption) | exact MAt.a7 (by assumption) | exact MAt.a8 (by assumption) | exact MAt.a9 (by assumption) | exact MAt.a10 (by assumption) | exact MAt.a11 (by assumption) | exact MAt.a12 (by assumption) | exact MAt.a13 (by assumption) | exact MAt.a14 (by assumption) | exact MAt.a15 (by assumption) | exact MAt.a16 (by assumption)) (by rfl) dX8_tithe_18 ?_
  rw [fU_eq]
  first | refine r_if_le_n (tgt := 28) dX8_tithe_21 (by decide) (by omega) (fun h21 => ?_) (fun h21 => by exfalso; omega) | refine r_if_le (tgt := 28) dX8_tithe_21 (by decide) (fun h21 => ?_) (fun h21 => by exfalso; omega)
  first | refine r_aload_n dX8_tithe_28 rfl ?_ | refine r_aload_nq dX8_tithe_28 rfl ?_ | refine r_aload_nN dX8_tithe_28 rfl ?_
  refine r_iload_n dX8_tithe_29 rfl ?_
  refine r_callV s_X8_124_v dX8_tithe_30 (by first | exact MAt.o (by assumption) | exact MAt.a1 (by assumption) | exact MAt.a2 (by assumption) | exact MAt.a3 (by assumption) | exact MAt.a4 (by assumption) | exact MAt.a5 (by assumption) | exact MAt.a6 (by assumption) | exact MAt.a7 (by assumption) | exact MAt.a8 (by assumption) | exact MAt.a9 (by assumption) | exact MAt.a10 (by assumption) | exact MAt.a11 (by assumption) | exact MAt.a12 (by assumption) | exact MAt.a13 (by assumption) | exact MAt.a14 (by assumption) | exact MAt.a15 (by assumption) | exact MAt.a16 (by assumption)) (by rfl) rfl (Nat.le_of_ble_eq_true rfl) (m_titheOf hM hP.1.1 hR i hi (nm_e ?_))
  refine mK_r ?_
  refine r_fret rfl dX8_tithe_33 ?_
  exact hq _ (MX_iff.mpr ⟨_, _, hM, hP.f6 0, hR, rfl⟩)
theorem m_rateBits (h : MX B M m X th) (hb : mGb G ≤ m) (c : Int32) (hq : ∀ M, MX B M m X (spRateBits X c).1 → Q (.inl (some (.int (spRateBits X c).2))) M t u) : mMet G (d + 2) zX8_rateBits [.ref m, .int c] M t u Q := by
  refine m_intro (by decide +kernel) ⟨Nat.le_of_ble_eq_true rfl, Nat.le_of_ble_eq_true rfl⟩ ?_
  show mW G _ _ 0 [some (.ref m), some (.int c)] [] _ _ _ _
  obtain ⟨F, A, hM, hP, hR, h6⟩ := h.un
  obtain ⟨⟨e0, hm⟩, ⟨e1, hn⟩, ⟨e2, hcg⟩, e3, e4, e5⟩ := mR_up hP.1.1 hR
  unfold spRateBits at hq
  first | refine r_aload_n dX8_rateBits_0 rfl ?_ | refine r_aload_nq dX8_rateBits_0 rfl ?_ | refine r_aload_nN dX8_rateBits_0 rfl ?_
  refine r_iload_n dX8_rateBits_1 rfl ?_
  refine r_callS s_X8_104_s dX8_rateBits_2 (by rfl) rfl (Nat.le_of_ble_eq_true rfl) (m_isChest _ (nm_e ?_))
  refine mK_r ?_
  first | refine r_if_eq_b (tgt := 12) dX8_rateBits_5 (by decide) (fun h5 => ?_) (fun h5 => ?_) | refine r_if_eq_n (tgt := 12) dX8_rateBits_5 (by decide) (by omega) (fun h5 => ?_) (fun h5 => ?_) | refine r_if_eq (tgt := 12) dX8_rateBits_5 (by decide) (fun h5 => ?_) (fun h5 => ?_)
  · rw [if_pos (by rw [h5]; decide)] at hq
    refine r_iconst (v := nI 1) dX8_rateBits_12 (by decide) ?_
    refine r_putf f_X8_64_7 ft_7_6 (by first | exact MAt.o (by assumption) | exact MAt.a1 (by assumption) | exact MAt.a2 (by assumption) | exact MAt.a3 (by assumption) | exact MAt.a4 (by assumption) | exact MAt.a5 (by assumption) | exact MAt.a6 (by assumption) | exact MAt.a7 (by assumption) | exact MAt.a8 (by assumption) | exact MAt.a9 (by assumption) | exact MAt.a10 (by assumption) | exact MAt.a11 (by assumption) | exact MAt.a12 (by assumption) | exact MAt.a13 (by assumption) | exact MAt.a14 (by assumption) | exact MAt.a15 (by assumption) | exact MAt.a16 (by assumption)) (by omega) (by first | rfl | exact bI_nar _) (by first | rfl | exact bI_fit _) dX8_rateBits_13 ?_
    refine MAt.p6 (by assumption) (fun M hM => ?_)
    first | refine r_aload_n dX8_rateBits_16 rfl ?_ | refine r_aload_nq dX8_rateBits_16 rfl ?_ | refine r_aload_nN dX8_rateBits_16 rfl ?_
    refine r_getf f_X8_64_7 (by first | exact MAt.o (by assumption) | exact MAt.a1 (by assumption) | exact MAt.a2 (by assumption) | exact MAt.a3 (by assumption) | exact MAt.a4 (by assumption) | exact MAt.a5 (by assumption) | exact MAt.a6 (by assumption) | exact MAt.a7 (by assumption) | exact MAt.a8 (by assumption) | exact MAt.a9 (by assumption) | exact MAt.a10 (by assumption) | exact MAt.a11 (by assumption) | exact MAt.a12 (by assumption) | exact MAt.a13 (by assumption) | exact MAt.a14 (by assumption) | exact MAt.a15 (by assumption) | exact MAt.a16 (by assumption)) (by rfl) dX8_rateBits_17 ?_
    rw [fU_eq]
    first | refine r_if_le_n (tgt := 27) dX8_rateBits_20 (by decide) (by omega) (fun h20 => by exfalso; omega) (fun h20 => ?_) | refine r_if_le (tgt := 27) dX8_rateBits_20 (by decide) (fun h20 => by exfalso; omega) (fun h20 => ?_)
    refine r_iconst (v := nI 0) dX8_rateBits_23 (by decide) ?_
    refine r_goto (tgt := 35) dX8_rateBits_24 (by decide) ?_
    refine r_iret rfl (by first | rfl | exact bI_nar _) dX8_rateBits_35 ?_
    exact hq _ (MX_iff.mpr ⟨_, _, hM, hP.f6 1, hR, rfl⟩)
  obtain ⟨j, _, hj, rfl⟩ := (inR_iff (lo := 0) (hi := 2) (by decide) (by decide)).mp h5
  have e3j := e3 j (by omega)
  simp only [h5, not_true_eq_false, if_false, nI_cl (show j < 2147483648 by omega)] at hq
  refine r_iconst (v := nI 0) dX8_rateBits_8 (by decide) ?_
  refine r_goto (tgt := 13) dX8_rateBits_9 (by decide) ?_
  refine r_putf f_X8_64_7 ft_7_6 (by first | exact MAt.o (by assumption) | exact MAt.a1 (by assumption) | exact MAt.a2 (by assumption) | exact MAt.a3 (by assumption) | exact MAt.a4 (by assumption) | exact MAt.a5 (by assumption) | exact MAt.a6 (by assumption) | exact MAt.a7 (by assumption) | exact MAt.a8 (by assumption) | exact MAt.a9 (by assumption) | exact MAt.a10 (by assumption) | exact MAt.a11 (by assumption) | exact MAt.a12 (by assumption) | exact MAt.a13 (by assumption) | exact MAt.a14 (by assumption) | exact MAt.a15 (by assumption) | exact MAt.a16 (by assumption)) (by omega) (by first | rfl | exact bI_nar _) (by first | rfl | exact bI_fit _) dX8_rateBits_13 ?_
  refine MAt.p6 (by assumption) (fun M hM => ?_)
  first | refine r_aload_n dX8_rateBits_16 rfl ?_ | refine r_aload_nq dX8_rateBits_16 rfl ?_ | refine r_aload_nN dX8_rateBits_16 rfl ?_
  refine r_getf f_X8_64_7 (by first | exact MAt.o (by assumption) | exact MAt.a1 (by assumption) | exact MAt.a2 (by assumption) | exact MAt.a3 (by assumption) | exact MAt.a4 (by assumption) | exact MAt.a5 (by assumption) | exact MAt.a6 (by assumption) | exact MAt.a7 (by assumption) | exact MAt.a8 (by assumption) | exact MAt.a9 (by assumption) | exact MAt.a10 (by assumption) | exact MAt.a11 (by assumption) | exact MAt.a12 (by assumption) | exact MAt.a13 (by assumption) | exact MAt.a14 (by assumption) | exact MAt.a15 (by assumption) | exact MAt.a16 (by assumption)) (by rfl) dX8_rateBits_17 ?_
  rw [fU_eq]
  first | refine r_if_le_n (tgt := 27) dX8_rateBits_20 (by decide) (by omega) (fun h20 => ?_) (fun h20 => by exfalso; omega) | refine r_if_le (tgt := 27) dX8_rateBits_20 (by decide) (fun h20 => ?_) (fun h20 => by exfalso; omega)
  first | refine r_aload_n dX8_rateBits_27 rfl ?_ | refine r_aload_nq dX8_rateBits_27 rfl ?_ | refine r_aload_nN dX8_rateBits_27 rfl ?_
  refine r_iload_n dX8_rateBits_28 rfl ?_
  refine r_callV s_X8_120_v dX8_rateBits_29 (by first | exact MAt.o (by assumption) | exact MAt.a1 (by assumption) | exact MAt.a2 (by assumption) | exact MAt.a3 (by assumption) | exact MAt.a4 (by assumption) | exact MAt.a5 (by assumption) | exact MAt.a6 (by assumption) | exact MAt.a7 (by assumption) | exact MAt.a8 (by assumption) | exact MAt.a9 (by assumption) | exact MAt.a10 (by assumption) | exact MAt.a11 (by assumption) | exact MAt.a12 (by assumption) | exact MAt.a13 (by assumption) | exact MAt.a14 (by assumption) | exact MAt.a15 (by assumption) | exact MAt.a16 (by assumption)) (by rfl) rfl (Nat.le_of_ble_eq_true rfl) (m_rateOf hM j (by omega) (by omega) ?_)
  refine mK_r ?_
  refine r_callS s_X8_127_s dX8_rateBits_32 (by rfl) rfl (Nat.le_of_ble_eq_true rfl) (j_bits (rtF_q (by omega)).p ?_)
  refine mK_r ?_
  refine r_iret rfl (by first | rfl | exact bI_nar _) dX8_rateBits_35 ?_
  rw [e3j.1]
  exact hq _ (MX_iff.mpr ⟨_, _, hM, hP.f6 0, hR, rfl⟩)
end MOD7
