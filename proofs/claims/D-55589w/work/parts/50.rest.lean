/-! ===== the model: texts, lines, accounts ===== -/
def xTxt (X : XT) (T : List Nat) (E : Nat) : XT := (xW X, xH X, xS X, T, xL X, E, xR X, xD X)
def xLin (X : XT) (l : List Nat) : XT := (xW X, xH X, xS X, xT X, l, xE X, xR X, xD X)
def spAppend (X : XT) (c : Nat) : RT := if (xT X).length = 60 then (1, 0, X) else (0, nI ((xT X).length + 1), xTxt X (xT X ++ [c]) (xE X))
def spErrorPosition (X : XT) : Nat × Int32 := (0, pI (xE X))
def spCharacter (X : XT) (i : Int32) : Nat × Int32 := if ¬ inB i (xL X).length = true then (1, nI 32) else (0, nI ((xL X).getD i.toNatClampNeg 0))
def wAll (W : WT) : Nat := sF (ww W) (wm W)
def spAccount (X : XT) (w : Int32) : Nat × Int32 := let W := xW X
  if ¬ inR w 0 8 = true then (1, 0) else (0, match w.toNatClampNeg with | 0 => nI (wm W) | 1 => nI (wn W) | 2 => nI (wcm W 0 + wcm W 1 + wcm W 2) | 3 => nI (wAll W) | 4 => nI (cntF (fun k => decide (wso W k = 7)) (wn W)) | 5 => (if nestB (wso W) (wn W) = true then nI (dpM (wso W) (wn W)) else -1) | 6 => nI (wcg W) | 7 => nI (xT X).length | _ => nI (xH X).length)
def spMean (X : XT) : Nat × UInt64 := if wm (xW X) = 0 then (1, FP.dconst0) else (0, FP.ddiv (FP.i2d (nI (wAll (xW X)))) (FP.i2d (nI (wm (xW X)))))
theorem wAll_le {W : WT} (hw : wOk W) : wAll W ≤ 99 * 8 := by
  have h1 := hw.1
  have h2 : wAll W ≤ 99 * wm W := sF_le (fun k hk => (hw.2.2.2.1 k hk).2.2)
  omega
theorem getD_mem {l : List Nat} {i : Nat} (h : i < l.length) : l[i]? = some (l.getD i 0) := by
  rw [List.getD_eq_getElem?_getD, List.getElem?_eq_getElem h]; rfl
section REST
variable {G : mG} {y : mY} {d pc : Nat} {L : List (Option Value)} {st : List Value} {B M : mM} {m t u th : Nat} {X : XT} {F : Nat → Nat} {D : Int32} {A : Nat → Nat → Nat} {Q : mQt}
theorem m_append (h : MX B M m X th) (hb : mGb G ≤ m) (c : Nat) (hc : c < 65536) (hq : ∀ M, MX B M m (spAppend X c).2.2 (spAppend X c).1 → Q (.inl (some (.int (spAppend X c).2.1))) M t u) : mMet G d zX8_append [.ref m, .int (nI c)] M t u Q := by
  refine m_intro (by decide +kernel) ⟨Nat.le_of_ble_eq_true rfl, Nat.le_of_ble_eq_true rfl⟩ ?_
  show mW G _ _ 0 [some (.ref m), some (.int (nI c))] [] _ _ _ _
  obtain ⟨F, A, hM, hP, hR, h6⟩ := h.un
  obtain ⟨⟨o1, o2, o3, o4, o5, o6, o7, o8, o9, o10⟩, p2, p3, p4, p5, p6, p7, p8, p9, p10⟩ := hP
  have hch := (pk_charN hc).1
  unfold spAppend at hq
  first | refine r_aload_n dX8_append_0 rfl ?_ | refine r_aload_nq dX8_append_0 rfl ?_ | refine r_aload_nN dX8_append_0 rfl ?_
  first | refine r_aload_n dX8_append_1 rfl ?_ | refine r_aload_nq dX8_append_1 rfl ?_ | refine r_aload_nN dX8_append_1 rfl ?_
  refine r_getf f_X8_281_7 (by first | exact MAt.o (by assumption) | exact MAt.a1 (by assumption) | exact MAt.a2 (by assumption) | exact MAt.a3 (by assumption) | exact MAt.a4 (by assumption) | exact MAt.a5 (by assumption) | exact MAt.a6 (by assumption) | exact MAt.a7 (by assumption) | exact MAt.a8 (by assumption) | exact MAt.a9 (by assumption) | exact MAt.a10 (by assumption) | exact MAt.a11 (by assumption) | exact MAt.a12 (by assumption) | exact MAt.a13 (by assumption) | exact MAt.a14 (by assumption) | exact MAt.a15 (by assumption) | exact MAt.a16 (by assumption)) (by rfl) dX8_append_2 ?_
  refine r_bipush (v := nI 60) dX8_append_5 (by decide) ?_
  first | refine r_icmp_ne_n (tgt := 14) dX8_append_7 (by decide) (by omega) (by omega) (fun h7 => ?_) (fun h7 => ?_) | refine r_icmp_ne_pn (tgt := 14) dX8_append_7 (by decide) (by omega) (by omega) (fun h7 => ?_) (fun h7 => ?_) | refine r_icmp_ne_pm (tgt := 14) dX8_append_7 (by decide) (by omega) (fun h7 => ?_) (fun h7 => ?_) | refine r_icmp_ne (tgt := 14) dX8_append_7 (by decide) (fun h7 => ?_) (fun h7 => ?_)
  · rw [if_neg (by omega)] at hq
    have f28 : fU F 6 0 28 = F 28 := rfl
    refine r_iconst (v := nI 0) dX8_append_14 (by decide) ?_
    refine r_putf f_X8_64_7 ft_7_6 (by first | exact MAt.o (by assumption) | exact MAt.a1 (by assumption) | exact MAt.a2 (by assumption) | exact MAt.a3 (by assumption) | exact MAt.a4 (by assumption) | exact MAt.a5 (by assumption) | exact MAt.a6 (by assumption) | exact MAt.a7 (by assumption) | exact MAt.a8 (by assumption) | exact MAt.a9 (by assumption) | exact MAt.a10 (by assumption) | exact MAt.a11 (by assumption) | exact MAt.a12 (by assumption) | exact MAt.a13 (by assumption) | exact MAt.a14 (by assumption) | exact MAt.a15 (by assumption) | exact MAt.a16 (by assumption)) (by omega) (by first | rfl | exact bI_nar _) (by first | rfl | exact bI_fit _) dX8_append_15 ?_
    refine MAt.p6 (by assumption) (fun M hM => ?_)
    first | refine r_aload_n dX8_append_18 rfl ?_ | refine r_aload_nq dX8_append_18 rfl ?_ | refine r_aload_nN dX8_append_18 rfl ?_
    refine r_getf f_X8_64_7 (by first | exact MAt.o (by assumption) | exact MAt.a1 (by assumption) | exact MAt.a2 (by assumption) | exact MAt.a3 (by assumption) | exact MAt.a4 (by assumption) | exact MAt.a5 (by assumption) | exact MAt.a6 (by assumption) | exact MAt.a7 (by assumption) | exact MAt.a8 (by assumption) | exact MAt.a9 (by assumption) | exact MAt.a10 (by assumption) | exact MAt.a11 (by assumption) | exact MAt.a12 (by assumption) | exact MAt.a13 (by assumption) | exact MAt.a14 (by assumption) | exact MAt.a15 (by assumption) | exact MAt.a16 (by assumption)) (by rfl) dX8_append_19 ?_
    rw [fU_eq]
    first | refine r_if_le_n (tgt := 27) dX8_append_22 (by decide) (by omega) (fun h22 => ?_) (fun h22 => by exfalso; omega) | refine r_if_le (tgt := 27) dX8_append_22 (by decide) (fun h22 => ?_) (fun h22 => by exfalso; omega)
    first | refine r_aload_n dX8_append_27 rfl ?_ | refine r_aload_nq dX8_append_27 rfl ?_ | refine r_aload_nN dX8_append_27 rfl ?_
    refine r_getf f_X8_54_7 (by first | exact MAt.o (by assumption) | exact MAt.a1 (by assumption) | exact MAt.a2 (by assumption) | exact MAt.a3 (by assumption) | exact MAt.a4 (by assumption) | exact MAt.a5 (by assumption) | exact MAt.a6 (by assumption) | exact MAt.a7 (by assumption) | exact MAt.a8 (by assumption) | exact MAt.a9 (by assumption) | exact MAt.a10 (by assumption) | exact MAt.a11 (by assumption) | exact MAt.a12 (by assumption) | exact MAt.a13 (by assumption) | exact MAt.a14 (by assumption) | exact MAt.a15 (by assumption) | exact MAt.a16 (by assumption)) (by rfl) dX8_append_28 ?_
    first | refine r_aload_n dX8_append_31 rfl ?_ | refine r_aload_nq dX8_append_31 rfl ?_ | refine r_aload_nN dX8_append_31 rfl ?_
    refine r_getf f_X8_281_7 (by first | exact MAt.o (by assumption) | exact MAt.a1 (by assumption) | exact MAt.a2 (by assumption) | exact MAt.a3 (by assumption) | exact MAt.a4 (by assumption) | exact MAt.a5 (by assumption) | exact MAt.a6 (by assumption) | exact MAt.a7 (by assumption) | exact MAt.a8 (by assumption) | exact MAt.a9 (by assumption) | exact MAt.a10 (by assumption) | exact MAt.a11 (by assumption) | exact MAt.a12 (by assumption) | exact MAt.a13 (by assumption) | exact MAt.a14 (by assumption) | exact MAt.a15 (by assumption) | exact MAt.a16 (by assumption)) (by rfl) dX8_append_32 ?_
    refine r_iload_n dX8_append_35 rfl ?_
    refine r_cast_n (by first | exact MAt.o (by assumption) | exact MAt.a1 (by assumption) | exact MAt.a2 (by assumption) | exact MAt.a3 (by assumption) | exact MAt.a4 (by assumption) | exact MAt.a5 (by assumption) | exact MAt.a6 (by assumption) | exact MAt.a7 (by assumption) | exact MAt.a8 (by assumption) | exact MAt.a9 (by assumption) | exact MAt.a10 (by assumption) | exact MAt.a11 (by assumption) | exact MAt.a12 (by assumption) | exact MAt.a13 (by assumption) | exact MAt.a14 (by assumption) | exact MAt.a15 (by assumption) | exact MAt.a16 (by assumption)) (by rfl) (by omega) (by omega) (by omega) (by first | rfl | assumption) dX8_append_36 ?_
    first | refine MAt.g14 (by assumption) (fun M hM => ?_) | refine MAt.g15 (by assumption) (fun M hM => ?_)
    rw [f28, p5] at hM
    first | refine r_aload_n dX8_append_37 rfl ?_ | refine r_aload_nq dX8_append_37 rfl ?_ | refine r_aload_nN dX8_append_37 rfl ?_
    refine r_dup dX8_append_38 (by rfl) ?_
    refine r_getf f_X8_281_7 (by first | exact MAt.o (by assumption) | exact MAt.a1 (by assumption) | exact MAt.a2 (by assumption) | exact MAt.a3 (by assumption) | exact MAt.a4 (by assumption) | exact MAt.a5 (by assumption) | exact MAt.a6 (by assumption) | exact MAt.a7 (by assumption) | exact MAt.a8 (by assumption) | exact MAt.a9 (by assumption) | exact MAt.a10 (by assumption) | exact MAt.a11 (by assumption) | exact MAt.a12 (by assumption) | exact MAt.a13 (by assumption) | exact MAt.a14 (by assumption) | exact MAt.a15 (by assumption) | exact MAt.a16 (by assumption)) (by rfl) dX8_append_39 ?_
    refine r_iconst (v := nI 1) dX8_append_42 (by decide) ?_
    first | refine r_iadd_n dX8_append_43 ?_ | refine r_iadd dX8_append_43 ?_
    refine r_putf f_X8_281_7 ft_7_28 (by first | exact MAt.o (by assumption) | exact MAt.a1 (by assumption) | exact MAt.a2 (by assumption) | exact MAt.a3 (by assumption) | exact MAt.a4 (by assumption) | exact MAt.a5 (by assumption) | exact MAt.a6 (by assumption) | exact MAt.a7 (by assumption) | exact MAt.a8 (by assumption) | exact MAt.a9 (by assumption) | exact MAt.a10 (by assumption) | exact MAt.a11 (by assumption) | exact MAt.a12 (by assumption) | exact MAt.a13 (by assumption) | exact MAt.a14 (by assumption) | exact MAt.a15 (by assumption) | exact MAt.a16 (by assumption)) (by omega) (by first | rfl | exact bI_nar _) (by first | rfl | exact bI_fit _) dX8_append_44 ?_
    refine MAt.p28 (by assumption) (fun M hM => ?_)
    first | refine r_aload_n dX8_append_47 rfl ?_ | refine r_aload_nq dX8_append_47 rfl ?_ | refine r_aload_nN dX8_append_47 rfl ?_
    refine r_getf f_X8_281_7 (by first | exact MAt.o (by assumption) | exact MAt.a1 (by assumption) | exact MAt.a2 (by assumption) | exact MAt.a3 (by assumption) | exact MAt.a4 (by assumption) | exact MAt.a5 (by assumption) | exact MAt.a6 (by assumption) | exact MAt.a7 (by assumption) | exact MAt.a8 (by assumption) | exact MAt.a9 (by assumption) | exact MAt.a10 (by assumption) | exact MAt.a11 (by assumption) | exact MAt.a12 (by assumption) | exact MAt.a13 (by assumption) | exact MAt.a14 (by assumption) | exact MAt.a15 (by assumption) | exact MAt.a16 (by assumption)) (by rfl) dX8_append_48 ?_
    rw [fU_eq]
    refine r_iret rfl (by first | rfl | exact bI_nar _ | exact (pk_charN (by first | assumption | omega)).1) dX8_append_51 ?_
    rw [f28, p5] at hM ⊢
    refine hq _ (MX_iff.mpr ⟨_, _, hM, ⟨⟨o1, o2, o3, o4, ?_, ?_, o7, o8, o9, o10⟩, p2, p3, p4, ?_, ?_, p7, p8, p9, p10⟩, hR, rfl⟩)
    · show (xT X ++ [c]).length ≤ 60; rw [List.length_append]; show _ + 1 ≤ 60; omega
    · intro z hz
      rcases List.mem_append.mp hz with h | h
      · exact o6 z h
      · rw [List.mem_singleton.mp h]; exact hc
    · rw [fU_eq]; show _ = (xT X ++ [c]).length; rw [List.length_append]; rfl
    · intro i z hz
      have hz : (xT X ++ [c])[i]? = some z := hz
      rw [fA_eq]
      rcases Nat.lt_trichotomy i (xT X).length with h | h | h
      · rw [List.getElem?_append_left h] at hz
        rw [fU_ne (by omega)]; exact p6 i z hz
      · subst h
        rw [List.getElem?_append_right (Nat.le_refl _), Nat.sub_self] at hz
        cases hz
        rw [fU_eq]
      · rw [List.getElem?_append_right (by omega)] at hz
        rw [List.getElem?_eq_none (by simp; omega)] at hz
        cases hz
  · rw [if_pos (by omega)] at hq
    refine r_iconst (v := nI 1) dX8_append_10 (by decide) ?_
    refine r_goto (tgt := 15) dX8_append_11 (by decide) ?_
    refine r_putf f_X8_64_7 ft_7_6 (by first | exact MAt.o (by assumption) | exact MAt.a1 (by assumption) | exact MAt.a2 (by assumption) | exact MAt.a3 (by assumption) | exact MAt.a4 (by assumption) | exact MAt.a5 (by assumption) | exact MAt.a6 (by assumption) | exact MAt.a7 (by assumption) | exact MAt.a8 (by assumption) | exact MAt.a9 (by assumption) | exact MAt.a10 (by assumption) | exact MAt.a11 (by assumption) | exact MAt.a12 (by assumption) | exact MAt.a13 (by assumption) | exact MAt.a14 (by assumption) | exact MAt.a15 (by assumption) | exact MAt.a16 (by assumption)) (by omega) (by first | rfl | exact bI_nar _) (by first | rfl | exact bI_fit _) dX8_append_15 ?_
    refine MAt.p6 (by assumption) (fun M hM => ?_)
    first | refine r_aload_n dX8_append_18 rfl ?_ | refine r_aload_nq dX8_append_18 rfl ?_ | refine r_aload_nN dX8_append_18 rfl ?_
    refine r_getf f_X8_64_7 (by first | exact MAt.o (by assumption) | exact MAt.a1 (by assumption) | exact MAt.a2 (by assumption) | exact MAt.a3 (by assumption) | exact MAt.a4 (by assumption) | exact MAt.a5 (by assumption) | exact MAt.a6 (by assumption) | exact MAt.a7 (by assumption) | exact MAt.a8 (by assumption) | exact MAt.a9 (by assumption) | exact MAt.a10 (by assumption) | exact MAt.a11 (by assumption) | exact MAt.a12 (by assumption) | exact MAt.a13 (by assumption) | exact MAt.a14 (by assumption) | exact MAt.a15 (by assumption) | exact MAt.a16 (by assumption)) (by rfl) dX8_append_19 ?_
    rw [fU_eq]
    first | refine r_if_le_n (tgt := 27) dX8_append_22 (by decide) (by omega) (fun h22 => by exfalso; omega) (fun h22 => ?_) | refine r_if_le (tgt := 27) dX8_append_22 (by decide) (fun h22 => by exfalso; omega) (fun h22 => ?_)
    refine r_iconst (v := nI 0) dX8_append_25 (by decide) ?_
    refine r_iret rfl (by first | rfl | exact bI_nar _ | exact (pk_charN (by first | assumption | omega)).1) dX8_append_26 ?_
    exact hq _ (MX_iff.mpr ⟨_, _, hM, ⟨⟨o1, o2, o3, o4, o5, o6, o7, o8, o9, o10⟩, p2, p3, p4, p5, p6, p7, p8, p9, p10⟩, hR, rfl⟩)
theorem m_errorPosition (h : MX B M m X th) (hb : mGb G ≤ m) (hq : ∀ M, MX B M m X (spErrorPosition X).1 → Q (.inl (some (.int (spErrorPosition X).2))) M t u) : mMet G d zX8_errorPosition [.ref m] M t u Q := by
  refine m_intro (by decide +kernel) ⟨Nat.le_of_ble_eq_true rfl, Nat.le_of_ble_eq_true rfl⟩ ?_
  show mW G _ _ 0 [some (.ref m)] [] _ _ _ _
  obtain ⟨F, A, hM, hP, hR, h6⟩ := h.un
  have h29 : F 29 = xE X := hP.2.2.2.2.2.2.2.2.1
  first | refine r_aload_n dX8_errorPosition_0 rfl ?_ | refine r_aload_nq dX8_errorPosition_0 rfl ?_ | refine r_aload_nN dX8_errorPosition_0 rfl ?_
  refine r_iconst (v := nI 0) dX8_errorPosition_1 (by decide) ?_
  refine r_putf f_X8_64_7 ft_7_6 (by first | exact MAt.o (by assumption) | exact MAt.a1 (by assumption) | exact MAt.a2 (by assumption) | exact MAt.a3 (by assumption) | exact MAt.a4 (by assumption) | exact MAt.a5 (by assumption) | exact MAt.a6 (by assumption) | exact MAt.a7 (by assumption) | exact MAt.a8 (by assumption) | exact MAt.a9 (by assumption) | exact MAt.a10 (by assumption) | exact MAt.a11 (by assumption) | exact MAt.a12 (by assumption) | exact MAt.a13 (by assumption) | exact MAt.a14 (by assumption) | exact MAt.a15 (by assumption) | exact MAt.a16 (by assumption)) (by omega) (by first | rfl | exact bI_nar _) (by first | rfl | exact bI_fit _) dX8_errorPosition_2 ?_
  refine MAt.p6 (by assumption) (fun M hM => ?_)
  first | refine r_aload_n dX8_errorPosition_5 rfl ?_ | refine r_aload_nq dX8_errorPosition_5 rfl ?_ | refine r_aload_nN dX8_errorPosition_5 rfl ?_
  refine r_getf f_X8_57_7 (by first | exact MAt.o (by assumption) | exact MAt.a1 (by assumption) | exact MAt.a2 (by assumption) | exact MAt.a3 (by assumption) | exact MAt.a4 (by assumption) | exact MAt.a5 (by assumption) | exact MAt.a6 (by assumption) | exact MAt.a7 (by assumption) | exact MAt.a8 (by assumption) | exact MAt.a9 (by assumption) | exact MAt.a10 (by assumption) | exact MAt.a11 (by assumption) | exact MAt.a12 (by assumption) | exact MAt.a13 (by assumption) | exact MAt.a14 (by assumption) | exact MAt.a15 (by assumption) | exact MAt.a16 (by assumption)) (by rfl) dX8_errorPosition_6 ?_
  refine r_iret rfl (by first | rfl | exact bI_nar _ | exact (pk_charN (by first | assumption | omega)).1) dX8_errorPosition_9 ?_
  rw [show fU F 6 0 29 = xE X from h29]
  exact hq _ (MX_iff.mpr ⟨_, _, hM, hP.f6 0, hR, rfl⟩)
theorem m_character (h : MX B M m X th) (hb : mGb G ≤ m) (i : Int32) (hq : ∀ M, MX B M m X (spCharacter X i).1 → Q (.inl (some (.int (spCharacter X i).2))) M t u) : mMet G (d + 1) zX8_character [.ref m, .int i] M t u Q := by
  refine m_intro (by decide +kernel) ⟨Nat.le_of_ble_eq_true rfl, Nat.le_of_ble_eq_true rfl⟩ ?_
  show mW G _ _ 0 [some (.ref m), some (.int i)] [] _ _ _ _
  obtain ⟨F, A, hM, hP, hR, h6⟩ := h.un
  have o7 := hP.1.2.2.2.2.2.2.1
  have o8 := hP.1.2.2.2.2.2.2.2.1
  have p7 : F 26 = (xL X).length := hP.2.2.2.2.2.2.1
  have p8 := hP.2.2.2.2.2.2.2.1
  unfold spCharacter at hq
  first | refine r_aload_n dX8_character_0 rfl ?_ | refine r_aload_nq dX8_character_0 rfl ?_ | refine r_aload_nN dX8_character_0 rfl ?_
  refine r_iload_n dX8_character_1 rfl ?_
  refine r_iconst (v := nI 0) dX8_character_2 (by decide) ?_
  first | refine r_aload_n dX8_character_3 rfl ?_ | refine r_aload_nq dX8_character_3 rfl ?_ | refine r_aload_nN dX8_character_3 rfl ?_
  refine r_getf f_X8_266_7 (by first | exact MAt.o (by assumption) | exact MAt.a1 (by assumption) | exact MAt.a2 (by assumption) | exact MAt.a3 (by assumption) | exact MAt.a4 (by assumption) | exact MAt.a5 (by assumption) | exact MAt.a6 (by assumption) | exact MAt.a7 (by assumption) | exact MAt.a8 (by assumption) | exact MAt.a9 (by assumption) | exact MAt.a10 (by assumption) | exact MAt.a11 (by assumption) | exact MAt.a12 (by assumption) | exact MAt.a13 (by assumption) | exact MAt.a14 (by assumption) | exact MAt.a15 (by assumption) | exact MAt.a16 (by assumption)) (by rfl) dX8_character_4 ?_
  refine r_iconst (v := nI 1) dX8_character_7 (by decide) ?_
  refine r_isub dX8_character_8 ?_
  refine r_callS s_X8_82_s dX8_character_9 (by rfl) rfl (Nat.le_of_ble_eq_true rfl) (m_in _ _ _ (nm_e ?_))
  refine mK_r ?_
  first | refine r_if_eq_b (tgt := 19) dX8_character_12 (by decide) (fun h12 => ?_) (fun h12 => ?_) | refine r_if_eq_n (tgt := 19) dX8_character_12 (by decide) (by omega) (fun h12 => ?_) (fun h12 => ?_) | refine r_if_eq (tgt := 19) dX8_character_12 (by decide) (fun h12 => ?_) (fun h12 => ?_)
  · have h12 : inB i (F 26) = false := h12
    rw [if_pos (by rw [← p7, h12]; decide)] at hq
    refine r_iconst (v := nI 1) dX8_character_19 (by decide) ?_
    refine r_putf f_X8_64_7 ft_7_6 (by first | exact MAt.o (by assumption) | exact MAt.a1 (by assumption) | exact MAt.a2 (by assumption) | exact MAt.a3 (by assumption) | exact MAt.a4 (by assumption) | exact MAt.a5 (by assumption) | exact MAt.a6 (by assumption) | exact MAt.a7 (by assumption) | exact MAt.a8 (by assumption) | exact MAt.a9 (by assumption) | exact MAt.a10 (by assumption) | exact MAt.a11 (by assumption) | exact MAt.a12 (by assumption) | exact MAt.a13 (by assumption) | exact MAt.a14 (by assumption) | exact MAt.a15 (by assumption) | exact MAt.a16 (by assumption)) (by omega) (by first | rfl | exact bI_nar _) (by first | rfl | exact bI_fit _) dX8_character_20 ?_
    refine MAt.p6 (by assumption) (fun M hM => ?_)
    first | refine r_aload_n dX8_character_23 rfl ?_ | refine r_aload_nq dX8_character_23 rfl ?_ | refine r_aload_nN dX8_character_23 rfl ?_
    refine r_getf f_X8_64_7 (by first | exact MAt.o (by assumption) | exact MAt.a1 (by assumption) | exact MAt.a2 (by assumption) | exact MAt.a3 (by assumption) | exact MAt.a4 (by assumption) | exact MAt.a5 (by assumption) | exact MAt.a6 (by assumption) | exact MAt.a7 (by assumption) | exact MAt.a8 (by assumption) | exact MAt.a9 (by assumption) | exact MAt.a10 (by assumption) | exact MAt.a11 (by assumption) | exact MAt.a12 (by assumption) | exact MAt.a13 (by assumption) | exact MAt.a14 (by assumption) | exact MAt.a15 (by assumption) | exact MAt.a16 (by assumption)) (by rfl) dX8_character_24 ?_
    rw [fU_eq]
    first | refine r_if_le_n (tgt := 35) dX8_character_27 (by decide) (by omega) (fun h27 => by exfalso; omega) (fun h27 => ?_) | refine r_if_le (tgt := 35) dX8_character_27 (by decide) (fun h27 => by exfalso; omega) (fun h27 => ?_)
    refine r_bipush (v := nI 32) dX8_character_30 (by decide) ?_
    refine r_goto (tgt := 41) dX8_character_32 (by decide) ?_
    refine r_iret rfl (by first | rfl | exact bI_nar _ | exact (pk_charN (by first | assumption | omega)).1) dX8_character_41 ?_
    exact hq _ (MX_iff.mpr ⟨_, _, hM, hP.f6 1, hR, rfl⟩)
  have h12 : inB i (F 26) = true := h12
  obtain ⟨i, hi, rfl⟩ := (inB_iff (by omega)).mp h12
  rw [p7] at h12 hi
  simp only [h12, not_true_eq_false, if_false, nI_cl (show i < 2147483648 by omega)] at hq
  have e14 := p8 i _ (getD_mem hi)
  have hc : A 14 i < 65536 := by rw [e14]; exact o8 _ (List.mem_of_getElem? (getD_mem hi))
  rw [← e14] at hq
  refine r_iconst (v := nI 0) dX8_character_15 (by decide) ?_
  refine r_goto (tgt := 20) dX8_character_16 (by decide) ?_
  refine r_putf f_X8_64_7 ft_7_6 (by first | exact MAt.o (by assumption) | exact MAt.a1 (by assumption) | exact MAt.a2 (by assumption) | exact MAt.a3 (by assumption) | exact MAt.a4 (by assumption) | exact MAt.a5 (by assumption) | exact MAt.a6 (by assumption) | exact MAt.a7 (by assumption) | exact MAt.a8 (by assumption) | exact MAt.a9 (by assumption) | exact MAt.a10 (by assumption) | exact MAt.a11 (by assumption) | exact MAt.a12 (by assumption) | exact MAt.a13 (by assumption) | exact MAt.a14 (by assumption) | exact MAt.a15 (by assumption) | exact MAt.a16 (by assumption)) (by omega) (by first | rfl | exact bI_nar _) (by first | rfl | exact bI_fit _) dX8_character_20 ?_
  refine MAt.p6 (by assumption) (fun M hM => ?_)
  first | refine r_aload_n dX8_character_23 rfl ?_ | refine r_aload_nq dX8_character_23 rfl ?_ | refine r_aload_nN dX8_character_23 rfl ?_
  refine r_getf f_X8_64_7 (by first | exact MAt.o (by assumption) | exact MAt.a1 (by assumption) | exact MAt.a2 (by assumption) | exact MAt.a3 (by assumption) | exact MAt.a4 (by assumption) | exact MAt.a5 (by assumption) | exact MAt.a6 (by assumption) | exact MAt.a7 (by assumption) | exact MAt.a8 (by assumption) | exact MAt.a9 (by assumption) | exact MAt.a10 (by assumption) | exact MAt.a11 (by assumption) | exact MAt.a12 (by assumption) | exact MAt.a13 (by assumption) | exact MAt.a14 (by assumption) | exact MAt.a15 (by assumption) | exact MAt.a16 (by assumption)) (by rfl) dX8_character_24 ?_
  rw [fU_eq]
  first | refine r_if_le_n (tgt := 35) dX8_character_27 (by decide) (by omega) (fun h27 => ?_) (fun h27 => by exfalso; omega) | refine r_if_le (tgt := 35) dX8_character_27 (by decide) (fun h27 => ?_) (fun h27 => by exfalso; omega)
  first | refine r_aload_n dX8_character_35 rfl ?_ | refine r_aload_nq dX8_character_35 rfl ?_ | refine r_aload_nN dX8_character_35 rfl ?_
  refine r_getf f_X8_50_7 (by first | exact MAt.o (by assumption) | exact MAt.a1 (by assumption) | exact MAt.a2 (by assumption) | exact MAt.a3 (by assumption) | exact MAt.a4 (by assumption) | exact MAt.a5 (by assumption) | exact MAt.a6 (by assumption) | exact MAt.a7 (by assumption) | exact MAt.a8 (by assumption) | exact MAt.a9 (by assumption) | exact MAt.a10 (by assumption) | exact MAt.a11 (by assumption) | exact MAt.a12 (by assumption) | exact MAt.a13 (by assumption) | exact MAt.a14 (by assumption) | exact MAt.a15 (by assumption) | exact MAt.a16 (by assumption)) (by rfl) dX8_character_36 ?_
  refine r_iload_n dX8_character_39 rfl ?_
  refine r_cald_n (by first | exact MAt.o (by assumption) | exact MAt.a1 (by assumption) | exact MAt.a2 (by assumption) | exact MAt.a3 (by assumption) | exact MAt.a4 (by assumption) | exact MAt.a5 (by assumption) | exact MAt.a6 (by assumption) | exact MAt.a7 (by assumption) | exact MAt.a8 (by assumption) | exact MAt.a9 (by assumption) | exact MAt.a10 (by assumption) | exact MAt.a11 (by assumption) | exact MAt.a12 (by assumption) | exact MAt.a13 (by assumption) | exact MAt.a14 (by assumption) | exact MAt.a15 (by assumption) | exact MAt.a16 (by assumption)) (by rfl) (by omega) (by omega) dX8_character_40 ?_
  refine r_iret rfl (by first | rfl | exact bI_nar _ | exact (pk_charN (by first | assumption | omega)).1) dX8_character_41 ?_
  exact hq _ (MX_iff.mpr ⟨_, _, hM, hP.f6 0, hR, rfl⟩)
theorem m_choices (h : MAt B M m F D A) (hn : A 1 1 ≤ 24) (hs : ∀ k, k < A 1 1 → A 1 (37 + 3 * k) < 10) (hq : Q (.inl (some (.int (nI (cntF (fun k => decide (A 1 (37 + 3 * k) = 7)) (A 1 1)))))) M t u) : mMet G (d + 1) zX8_choices [.ref m] M t u Q := by
  refine m_intro (by decide +kernel) ⟨Nat.le_of_ble_eq_true rfl, Nat.le_of_ble_eq_true rfl⟩ ?_
  show mW G _ _ 0 [some (.ref m), none, none] [] _ _ _ _
  have loop : ∀ n k, k + n = A 1 1 → mW G zX8_choices (d + 1) 4 [some (.ref m), some (.int (nI (cntF (fun k => decide (A 1 (37 + 3 * k) = 7)) k))), some (.int (nI k))] [] M t u Q := by
    intro n
    induction n with
    | zero =>
      intro k hk
      have hk : k = A 1 1 := by omega
      rw [← hk] at hq
      refine r_iload_n dX8_choices_4 rfl ?_
      first | refine r_aload_n dX8_choices_5 rfl ?_ | refine r_aload_nq dX8_choices_5 rfl ?_ | refine r_aload_nN dX8_choices_5 rfl ?_
      refine r_getf f_X8_9_7 (by first | exact MAt.o (by assumption) | exact MAt.a1 (by assumption) | exact MAt.a2 (by assumption) | exact MAt.a3 (by assumption) | exact MAt.a4 (by assumption) | exact MAt.a5 (by assumption) | exact MAt.a6 (by assumption) | exact MAt.a7 (by assumption) | exact MAt.a8 (by assumption) | exact MAt.a9 (by assumption) | exact MAt.a10 (by assumption) | exact MAt.a11 (by assumption) | exact MAt.a12 (by assumption) | exact MAt.a13 (by assumption) | exact MAt.a14 (by assumption) | exact MAt.a15 (by assumption) | exact MAt.a16 (by assumption)) (by rfl) dX8_choices_6 ?_
      refine r_iconst (v := nI 1) dX8_choices_9 (by decide) ?_
      refine r_iald_n (by first | exact MAt.o (by assumption) | exact MAt.a1 (by assumption) | exact MAt.a2 (by assumption) | exact MAt.a3 (by assumption) | exact MAt.a4 (by assumption) | exact MAt.a5 (by assumption) | exact MAt.a6 (by assumption) | exact MAt.a7 (by assumption) | exact MAt.a8 (by assumption) | exact MAt.a9 (by assumption) | exact MAt.a10 (by assumption) | exact MAt.a11 (by assumption) | exact MAt.a12 (by assumption) | exact MAt.a13 (by assumption) | exact MAt.a14 (by assumption) | exact MAt.a15 (by assumption) | exact MAt.a16 (by assumption)) (by rfl) (by omega) (by omega) dX8_choices_10 ?_
      first | refine r_icmp_ge_n (tgt := 38) dX8_choices_11 (by decide) (by omega) (by omega) (fun h11 => ?_) (fun h11 => by exfalso; omega) | refine r_icmp_ge (tgt := 38) dX8_choices_11 (by decide) (fun h11 => ?_) (fun h11 => by exfalso; omega)
      refine r_iload_n dX8_choices_38 rfl ?_
      refine r_iret rfl (by first | rfl | exact bI_nar _ | exact (pk_charN (by first | assumption | omega)).1) dX8_choices_39 ?_
      exact hq
    | succ n ih =>
      intro k hk
      have := hs k (by omega)
      have nx := ih (k + 1) (by omega)
      refine r_iload_n dX8_choices_4 rfl ?_
      first | refine r_aload_n dX8_choices_5 rfl ?_ | refine r_aload_nq dX8_choices_5 rfl ?_ | refine r_aload_nN dX8_choices_5 rfl ?_
      refine r_getf f_X8_9_7 (by first | exact MAt.o (by assumption) | exact MAt.a1 (by assumption) | exact MAt.a2 (by assumption) | exact MAt.a3 (by assumption) | exact MAt.a4 (by assumption) | exact MAt.a5 (by assumption) | exact MAt.a6 (by assumption) | exact MAt.a7 (by assumption) | exact MAt.a8 (by assumption) | exact MAt.a9 (by assumption) | exact MAt.a10 (by assumption) | exact MAt.a11 (by assumption) | exact MAt.a12 (by assumption) | exact MAt.a13 (by assumption) | exact MAt.a14 (by assumption) | exact MAt.a15 (by assumption) | exact MAt.a16 (by assumption)) (by rfl) dX8_choices_6 ?_
      refine r_iconst (v := nI 1) dX8_choices_9 (by decide) ?_
      refine r_iald_n (by first | exact MAt.o (by assumption) | exact MAt.a1 (by assumption) | exact MAt.a2 (by assumption) | exact MAt.a3 (by assumption) | exact MAt.a4 (by assumption) | exact MAt.a5 (by assumption) | exact MAt.a6 (by assumption) | exact MAt.a7 (by assumption) | exact MAt.a8 (by assumption) | exact MAt.a9 (by assumption) | exact MAt.a10 (by assumption) | exact MAt.a11 (by assumption) | exact MAt.a12 (by assumption) | exact MAt.a13 (by assumption) | exact MAt.a14 (by assumption) | exact MAt.a15 (by assumption) | exact MAt.a16 (by assumption)) (by rfl) (by omega) (by omega) dX8_choices_10 ?_
      first | refine r_icmp_ge_n (tgt := 38) dX8_choices_11 (by decide) (by omega) (by omega) (fun h11 => by exfalso; omega) (fun h11 => ?_) | refine r_icmp_ge (tgt := 38) dX8_choices_11 (by decide) (fun h11 => by exfalso; omega) (fun h11 => ?_)
      refine r_iload_n dX8_choices_14 rfl ?_
      first | refine r_aload_n dX8_choices_15 rfl ?_ | refine r_aload_nq dX8_choices_15 rfl ?_ | refine r_aload_nN dX8_choices_15 rfl ?_
      refine r_iload_n dX8_choices_16 rfl ?_
      refine r_callV s_X8_110_v dX8_choices_17 (by first | exact MAt.o (by assumption) | exact MAt.a1 (by assumption) | exact MAt.a2 (by assumption) | exact MAt.a3 (by assumption) | exact MAt.a4 (by assumption) | exact MAt.a5 (by assumption) | exact MAt.a6 (by assumption) | exact MAt.a7 (by assumption) | exact MAt.a8 (by assumption) | exact MAt.a9 (by assumption) | exact MAt.a10 (by assumption) | exact MAt.a11 (by assumption) | exact MAt.a12 (by assumption) | exact MAt.a13 (by assumption) | exact MAt.a14 (by assumption) | exact MAt.a15 (by assumption) | exact MAt.a16 (by assumption)) (by rfl) rfl (Nat.le_of_ble_eq_true rfl) (m_sort h k (by omega) ?_)
      refine mK_r ?_
      refine r_bipush (v := nI 7) dX8_choices_20 (by decide) ?_
      first | refine r_icmp_ne_n (tgt := 29) dX8_choices_22 (by decide) (by omega) (by omega) (fun h22 => ?_) (fun h22 => ?_) | refine r_icmp_ne_pn (tgt := 29) dX8_choices_22 (by decide) (by omega) (by omega) (fun h22 => ?_) (fun h22 => ?_) | refine r_icmp_ne_pm (tgt := 29) dX8_choices_22 (by decide) (by omega) (fun h22 => ?_) (fun h22 => ?_) | refine r_icmp_ne (tgt := 29) dX8_choices_22 (by decide) (fun h22 => ?_) (fun h22 => ?_)
      · refine r_iconst (v := nI 0) dX8_choices_29 (by decide) ?_
        first | refine r_iadd_n dX8_choices_30 ?_ | refine r_iadd dX8_choices_30 ?_
        refine r_istore_n dX8_choices_31 (by decide) ?_
        simp only [mst1, mclr]
        first | refine r_iinc_n 1 dX8_choices_32 rfl (by decide) ?_ | refine r_iinc dX8_choices_32 rfl rfl (by decide) ?_
        simp only [mst1, mclr]
        refine r_goto (tgt := 4) dX8_choices_35 (by decide) ?_
        have e : cntF (fun k => decide (A 1 (37 + 3 * k) = 7)) (k + 1) = cntF (fun k => decide (A 1 (37 + 3 * k) = 7)) k + 0 := by
          show _ + (if _ then _ else _) = _
          rw [if_neg (by rw [decide_eq_true_eq]; exact h22)]
        rw [e] at nx
        exact nx
      · refine r_iconst (v := nI 1) dX8_choices_25 (by decide) ?_
        refine r_goto (tgt := 30) dX8_choices_26 (by decide) ?_
        first | refine r_iadd_n dX8_choices_30 ?_ | refine r_iadd dX8_choices_30 ?_
        refine r_istore_n dX8_choices_31 (by decide) ?_
        simp only [mst1, mclr]
        first | refine r_iinc_n 1 dX8_choices_32 rfl (by decide) ?_ | refine r_iinc dX8_choices_32 rfl rfl (by decide) ?_
        simp only [mst1, mclr]
        refine r_goto (tgt := 4) dX8_choices_35 (by decide) ?_
        have e : cntF (fun k => decide (A 1 (37 + 3 * k) = 7)) (k + 1) = cntF (fun k => decide (A 1 (37 + 3 * k) = 7)) k + 1 := by
          show _ + (if _ then _ else _) = _
          rw [if_pos (decide_eq_true h22)]
        rw [e] at nx
        exact nx
  refine r_iconst (v := nI 0) dX8_choices_0 (by decide) ?_
  refine r_istore_n dX8_choices_1 (by decide) ?_
  simp only [mst1, mclr]
  refine r_iconst (v := nI 0) dX8_choices_2 (by decide) ?_
  refine r_istore_n dX8_choices_3 (by decide) ?_
  simp only [mst1, mclr]
  exact loop (A 1 1) 0 (by omega)
theorem m_allWorth (h : MAt B M m F D A) {W : WT} (hw : wOk W) (hR : mR W (A 1)) (hq : Q (.inl (some (.int (nI (wAll W))))) M t u) : mMet G d zX8_allWorth [.ref m] M t u Q := by
  refine m_intro (by decide +kernel) ⟨Nat.le_of_ble_eq_true rfl, Nat.le_of_ble_eq_true rfl⟩ ?_
  show mW G _ _ 0 [some (.ref m), none, none] [] _ _ _ _
  obtain ⟨⟨e0, hm⟩, ⟨e1, hn⟩, ⟨e2, hcg⟩, e3, e4, e5⟩ := mR_up hw hR
  have loop : ∀ n k, k + n = wm W → mW G zX8_allWorth d 4 [some (.ref m), some (.int (nI (sF (ww W) k))), some (.int (nI k))] [] M t u Q := by
    intro n
    induction n with
    | zero =>
      intro k hk
      have hk : k = wm W := by omega
      subst hk
      refine r_iload_n dX8_allWorth_4 rfl ?_
      first | refine r_aload_n dX8_allWorth_5 rfl ?_ | refine r_aload_nq dX8_allWorth_5 rfl ?_ | refine r_aload_nN dX8_allWorth_5 rfl ?_
      refine r_getf f_X8_9_7 (by first | exact MAt.o (by assumption) | exact MAt.a1 (by assumption) | exact MAt.a2 (by assumption) | exact MAt.a3 (by assumption) | exact MAt.a4 (by assumption) | exact MAt.a5 (by assumption) | exact MAt.a6 (by assumption) | exact MAt.a7 (by assumption) | exact MAt.a8 (by assumption) | exact MAt.a9 (by assumption) | exact MAt.a10 (by assumption) | exact MAt.a11 (by assumption) | exact MAt.a12 (by assumption) | exact MAt.a13 (by assumption) | exact MAt.a14 (by assumption) | exact MAt.a15 (by assumption) | exact MAt.a16 (by assumption)) (by rfl) dX8_allWorth_6 ?_
      refine r_iconst (v := nI 0) dX8_allWorth_9 (by decide) ?_
      refine r_iald_n (by first | exact MAt.o (by assumption) | exact MAt.a1 (by assumption) | exact MAt.a2 (by assumption) | exact MAt.a3 (by assumption) | exact MAt.a4 (by assumption) | exact MAt.a5 (by assumption) | exact MAt.a6 (by assumption) | exact MAt.a7 (by assumption) | exact MAt.a8 (by assumption) | exact MAt.a9 (by assumption) | exact MAt.a10 (by assumption) | exact MAt.a11 (by assumption) | exact MAt.a12 (by assumption) | exact MAt.a13 (by assumption) | exact MAt.a14 (by assumption) | exact MAt.a15 (by assumption) | exact MAt.a16 (by assumption)) (by rfl) (by omega) (by omega) dX8_allWorth_10 ?_
      first | refine r_icmp_ge_n (tgt := 32) dX8_allWorth_11 (by decide) (by omega) (by omega) (fun h11 => ?_) (fun h11 => by exfalso; omega) | refine r_icmp_ge (tgt := 32) dX8_allWorth_11 (by decide) (fun h11 => ?_) (fun h11 => by exfalso; omega)
      refine r_iload_n dX8_allWorth_32 rfl ?_
      refine r_iret rfl (by first | rfl | exact bI_nar _ | exact (pk_charN (by first | assumption | omega)).1) dX8_allWorth_33 ?_
      exact hq
    | succ n ih =>
      intro k hk
      have nx := ih (k + 1) (by omega)
      have e4' := e4 k (by omega)
      refine r_iload_n dX8_allWorth_4 rfl ?_
      first | refine r_aload_n dX8_allWorth_5 rfl ?_ | refine r_aload_nq dX8_allWorth_5 rfl ?_ | refine r_aload_nN dX8_allWorth_5 rfl ?_
      refine r_getf f_X8_9_7 (by first | exact MAt.o (by assumption) | exact MAt.a1 (by assumption) | exact MAt.a2 (by assumption) | exact MAt.a3 (by assumption) | exact MAt.a4 (by assumption) | exact MAt.a5 (by assumption) | exact MAt.a6 (by assumption) | exact MAt.a7 (by assumption) | exact MAt.a8 (by assumption) | exact MAt.a9 (by assumption) | exact MAt.a10 (by assumption) | exact MAt.a11 (by assumption) | exact MAt.a12 (by assumption) | exact MAt.a13 (by assumption) | exact MAt.a14 (by assumption) | exact MAt.a15 (by assumption) | exact MAt.a16 (by assumption)) (by rfl) dX8_allWorth_6 ?_
      refine r_iconst (v := nI 0) dX8_allWorth_9 (by decide) ?_
      refine r_iald_n (by first | exact MAt.o (by assumption) | exact MAt.a1 (by assumption) | exact MAt.a2 (by assumption) | exact MAt.a3 (by assumption) | exact MAt.a4 (by assumption) | exact MAt.a5 (by assumption) | exact MAt.a6 (by assumption) | exact MAt.a7 (by assumption) | exact MAt.a8 (by assumption) | exact MAt.a9 (by assumption) | exact MAt.a10 (by assumption) | exact MAt.a11 (by assumption) | exact MAt.a12 (by assumption) | exact MAt.a13 (by assumption) | exact MAt.a14 (by assumption) | exact MAt.a15 (by assumption) | exact MAt.a16 (by assumption)) (by rfl) (by omega) (by omega) dX8_allWorth_10 ?_
      first | refine r_icmp_ge_n (tgt := 32) dX8_allWorth_11 (by decide) (by omega) (by omega) (fun h11 => by exfalso; omega) (fun h11 => ?_) | refine r_icmp_ge (tgt := 32) dX8_allWorth_11 (by decide) (fun h11 => by exfalso; omega) (fun h11 => ?_)
      refine r_iload_n dX8_allWorth_14 rfl ?_
      first | refine r_aload_n dX8_allWorth_15 rfl ?_ | refine r_aload_nq dX8_allWorth_15 rfl ?_ | refine r_aload_nN dX8_allWorth_15 rfl ?_
      refine r_getf f_X8_9_7 (by first | exact MAt.o (by assumption) | exact MAt.a1 (by assumption) | exact MAt.a2 (by assumption) | exact MAt.a3 (by assumption) | exact MAt.a4 (by assumption) | exact MAt.a5 (by assumption) | exact MAt.a6 (by assumption) | exact MAt.a7 (by assumption) | exact MAt.a8 (by assumption) | exact MAt.a9 (by assumption) | exact MAt.a10 (by assumption) | exact MAt.a11 (by assumption) | exact MAt.a12 (by assumption) | exact MAt.a13 (by assumption) | exact MAt.a14 (by assumption) | exact MAt.a15 (by assumption) | exact MAt.a16 (by assumption)) (by rfl) dX8_allWorth_16 ?_
      refine r_bipush (v := nI 29) dX8_allWorth_19 (by decide) ?_
      refine r_iload_n dX8_allWorth_21 rfl ?_
      first | refine r_iadd_n dX8_allWorth_22 ?_ | refine r_iadd dX8_allWorth_22 ?_
      refine r_iald_n (by first | exact MAt.o (by assumption) | exact MAt.a1 (by assumption) | exact MAt.a2 (by assumption) | exact MAt.a3 (by assumption) | exact MAt.a4 (by assumption) | exact MAt.a5 (by assumption) | exact MAt.a6 (by assumption) | exact MAt.a7 (by assumption) | exact MAt.a8 (by assumption) | exact MAt.a9 (by assumption) | exact MAt.a10 (by assumption) | exact MAt.a11 (by assumption) | exact MAt.a12 (by assumption) | exact MAt.a13 (by assumption) | exact MAt.a14 (by assumption) | exact MAt.a15 (by assumption) | exact MAt.a16 (by assumption)) (by rfl) (by omega) (by omega) dX8_allWorth_23 ?_
      first | refine r_iadd_n dX8_allWorth_24 ?_ | refine r_iadd dX8_allWorth_24 ?_
      refine r_istore_n dX8_allWorth_25 (by decide) ?_
      simp only [mst1, mclr]
      first | refine r_iinc_n 1 dX8_allWorth_26 rfl (by decide) ?_ | refine r_iinc dX8_allWorth_26 rfl rfl (by decide) ?_
      simp only [mst1, mclr]
      refine r_goto (tgt := 4) dX8_allWorth_29 (by decide) ?_
      rw [e4'.2.2.1]
      exact nx
  refine r_iconst (v := nI 0) dX8_allWorth_0 (by decide) ?_
  refine r_istore_n dX8_allWorth_1 (by decide) ?_
  simp only [mst1, mclr]
  refine r_iconst (v := nI 0) dX8_allWorth_2 (by decide) ?_
  refine r_istore_n dX8_allWorth_3 (by decide) ?_
  simp only [mst1, mclr]
  exact loop (wm W) 0 (by omega)
theorem m_account (h : MX B M m X th) (hb : mGb G ≤ m) (w : Int32) (hq : ∀ M, MX B M m X (spAccount X w).1 → Q (.inl (some (.int (spAccount X w).2))) M t u) : mMet G (d + 3) zX8_account [.ref m, .int w] M t u Q := by
  refine m_intro (by decide +kernel) ⟨Nat.le_of_ble_eq_true rfl, Nat.le_of_ble_eq_true rfl⟩ ?_
  show mW G _ _ 0 [some (.ref m), some (.int w)] [] _ _ _ _
  obtain ⟨F, A, hM, hP, hR, h6⟩ := h.un
  obtain ⟨⟨e0, hm⟩, ⟨e1, hn⟩, ⟨e2, hcg⟩, e3, e4, e5⟩ := mR_up hP.1.1 hR
  unfold spAccount at hq
  first | refine r_aload_n dX8_account_0 rfl ?_ | refine r_aload_nq dX8_account_0 rfl ?_ | refine r_aload_nN dX8_account_0 rfl ?_
  refine r_iload_n dX8_account_1 rfl ?_
  refine r_iconst (v := nI 0) dX8_account_2 (by decide) ?_
  refine r_bipush (v := nI 8) dX8_account_3 (by decide) ?_
  refine r_callS s_X8_82_s dX8_account_5 (by rfl) rfl (Nat.le_of_ble_eq_true rfl) (m_in _ _ _ (nm_e ?_))
  refine mK_r ?_
  first | refine r_if_eq_b (tgt := 15) dX8_account_8 (by decide) (fun h8 => ?_) (fun h8 => ?_) | refine r_if_eq_n (tgt := 15) dX8_account_8 (by decide) (by omega) (fun h8 => ?_) (fun h8 => ?_) | refine r_if_eq (tgt := 15) dX8_account_8 (by decide) (fun h8 => ?_) (fun h8 => ?_)
  · rw [if_pos (by rw [show inR w 0 8 = false from h8]; decide)] at hq
    refine r_iconst (v := nI 1) dX8_account_15 (by decide) ?_
    refine r_putf f_X8_64_7 ft_7_6 (by first | exact MAt.o (by assumption) | exact MAt.a1 (by assumption) | exact MAt.a2 (by assumption) | exact MAt.a3 (by assumption) | exact MAt.a4 (by assumption) | exact MAt.a5 (by assumption) | exact MAt.a6 (by assumption) | exact MAt.a7 (by assumption) | exact MAt.a8 (by assumption) | exact MAt.a9 (by assumption) | exact MAt.a10 (by assumption) | exact MAt.a11 (by assumption) | exact MAt.a12 (by assumption) | exact MAt.a13 (by assumption) | exact MAt.a14 (by assumption) | exact MAt.a15 (by assumption) | exact MAt.a16 (by assumption)) (by omega) (by first | rfl | exact bI_nar _) (by first | rfl | exact bI_fit _) dX8_account_16 ?_
    refine MAt.p6 (by assumption) (fun M hM => ?_)
    first | refine r_aload_n dX8_account_19 rfl ?_ | refine r_aload_nq dX8_account_19 rfl ?_ | refine r_aload_nN dX8_account_19 rfl ?_
    refine r_getf f_X8_64_7 (by first | exact MAt.o (by assumption) | exact MAt.a1 (by assumption) | exact MAt.a2 (by assumption) | exact MAt.a3 (by assumption) | exact MAt.a4 (by assumption) | exact MAt.a5 (by assumption) | exact MAt.a6 (by assumption) | exact MAt.a7 (by assumption) | exact MAt.a8 (by assumption) | exact MAt.a9 (by assumption) | exact MAt.a10 (by assumption) | exact MAt.a11 (by assumption) | exact MAt.a12 (by assumption) | exact MAt.a13 (by assumption) | exact MAt.a14 (by assumption) | exact MAt.a15 (by assumption) | exact MAt.a16 (by assumption)) (by rfl) dX8_account_20 ?_
    rw [fU_eq]
    first | refine r_if_le_n (tgt := 28) dX8_account_23 (by decide) (by omega) (fun h23 => by exfalso; omega) (fun h23 => ?_) | refine r_if_le (tgt := 28) dX8_account_23 (by decide) (fun h23 => by exfalso; omega) (fun h23 => ?_)
    refine r_iconst (v := nI 0) dX8_account_26 (by decide) ?_
    refine r_iret rfl (by first | rfl | exact bI_nar _ | exact (pk_charN (by first | assumption | omega)).1) dX8_account_27 ?_
    exact hq _ (MX_iff.mpr ⟨_, _, hM, hP.f6 1, hR, rfl⟩)
  have h8 : inR w 0 8 = true := h8
  obtain ⟨w, _, hw, rfl⟩ := (inR_iff (lo := 0) (hi := 8) (by decide) (by decide)).mp h8
  simp only [h8, not_true_eq_false, if_false, nI_cl (show w < 2147483648 by omega)] at hq
  have fin : ∀ M, MAt B M m (fU F 6 0) (xD X) A → MX B M m X 0 := fun M hM => MX_iff.mpr ⟨_, _, hM, hP.f6 0, hR, rfl⟩
  refine r_iconst (v := nI 0) dX8_account_11 (by decide) ?_
  refine r_goto (tgt := 16) dX8_account_12 (by decide) ?_
  refine r_putf f_X8_64_7 ft_7_6 (by first | exact MAt.o (by assumption) | exact MAt.a1 (by assumption) | exact MAt.a2 (by assumption) | exact MAt.a3 (by assumption) | exact MAt.a4 (by assumption) | exact MAt.a5 (by assumption) | exact MAt.a6 (by assumption) | exact MAt.a7 (by assumption) | exact MAt.a8 (by assumption) | exact MAt.a9 (by assumption) | exact MAt.a10 (by assumption) | exact MAt.a11 (by assumption) | exact MAt.a12 (by assumption) | exact MAt.a13 (by assumption) | exact MAt.a14 (by assumption) | exact MAt.a15 (by assumption) | exact MAt.a16 (by assumption)) (by omega) (by first | rfl | exact bI_nar _) (by first | rfl | exact bI_fit _) dX8_account_16 ?_
  refine MAt.p6 (by assumption) (fun M hM => ?_)
  first | refine r_aload_n dX8_account_19 rfl ?_ | refine r_aload_nq dX8_account_19 rfl ?_ | refine r_aload_nN dX8_account_19 rfl ?_
  refine r_getf f_X8_64_7 (by first | exact MAt.o (by assumption) | exact MAt.a1 (by assumption) | exact MAt.a2 (by assumption) | exact MAt.a3 (by assumption) | exact MAt.a4 (by assumption) | exact MAt.a5 (by assumption) | exact MAt.a6 (by assumption) | exact MAt.a7 (by assumption) | exact MAt.a8 (by assumption) | exact MAt.a9 (by assumption) | exact MAt.a10 (by assumption) | exact MAt.a11 (by assumption) | exact MAt.a12 (by assumption) | exact MAt.a13 (by assumption) | exact MAt.a14 (by assumption) | exact MAt.a15 (by assumption) | exact MAt.a16 (by assumption)) (by rfl) dX8_account_20 ?_
  rw [fU_eq]
  first | refine r_if_le_n (tgt := 28) dX8_account_23 (by decide) (by omega) (fun h23 => ?_) (fun h23 => by exfalso; omega) | refine r_if_le (tgt := 28) dX8_account_23 (by decide) (fun h23 => ?_) (fun h23 => by exfalso; omega)
  obtain rfl | rfl | rfl | rfl | rfl | rfl | rfl | rfl | rfl : w = 0 ∨ w = 1 ∨ w = 2 ∨ w = 3 ∨ w = 4 ∨ w = 5 ∨ w = 6 ∨ w = 7 ∨ w = 8 := by omega
  · refine r_iload_n dX8_account_28 rfl ?_
    refine r_tableIn (off := 47) (tgt := 76) dX8_account_29 (by decide) (by decide) (by decide) (by decide) ?_
    first | refine r_aload_n dX8_account_76 rfl ?_ | refine r_aload_nq dX8_account_76 rfl ?_ | refine r_aload_nN dX8_account_76 rfl ?_
    refine r_getf f_X8_9_7 (by first | exact MAt.o (by assumption) | exact MAt.a1 (by assumption) | exact MAt.a2 (by assumption) | exact MAt.a3 (by assumption) | exact MAt.a4 (by assumption) | exact MAt.a5 (by assumption) | exact MAt.a6 (by assumption) | exact MAt.a7 (by assumption) | exact MAt.a8 (by assumption) | exact MAt.a9 (by assumption) | exact MAt.a10 (by assumption) | exact MAt.a11 (by assumption) | exact MAt.a12 (by assumption) | exact MAt.a13 (by assumption) | exact MAt.a14 (by assumption) | exact MAt.a15 (by assumption) | exact MAt.a16 (by assumption)) (by rfl) dX8_account_77 ?_
    refine r_iconst (v := nI 0) dX8_account_80 (by decide) ?_
    refine r_iald_n (by first | exact MAt.o (by assumption) | exact MAt.a1 (by assumption) | exact MAt.a2 (by assumption) | exact MAt.a3 (by assumption) | exact MAt.a4 (by assumption) | exact MAt.a5 (by assumption) | exact MAt.a6 (by assumption) | exact MAt.a7 (by assumption) | exact MAt.a8 (by assumption) | exact MAt.a9 (by assumption) | exact MAt.a10 (by assumption) | exact MAt.a11 (by assumption) | exact MAt.a12 (by assumption) | exact MAt.a13 (by assumption) | exact MAt.a14 (by assumption) | exact MAt.a15 (by assumption) | exact MAt.a16 (by assumption)) (by rfl) (by omega) (by omega) dX8_account_81 ?_
    refine r_iret rfl (by first | rfl | exact bI_nar _ | exact (pk_charN (by first | assumption | omega)).1) dX8_account_82 ?_
    rw [e0]; exact hq _ (fin _ hM)
  · refine r_iload_n dX8_account_28 rfl ?_
    refine r_tableIn (off := 54) (tgt := 83) dX8_account_29 (by decide) (by decide) (by decide) (by decide) ?_
    first | refine r_aload_n dX8_account_83 rfl ?_ | refine r_aload_nq dX8_account_83 rfl ?_ | refine r_aload_nN dX8_account_83 rfl ?_
    refine r_getf f_X8_9_7 (by first | exact MAt.o (by assumption) | exact MAt.a1 (by assumption) | exact MAt.a2 (by assumption) | exact MAt.a3 (by assumption) | exact MAt.a4 (by assumption) | exact MAt.a5 (by assumption) | exact MAt.a6 (by assumption) | exact MAt.a7 (by assumption) | exact MAt.a8 (by assumption) | exact MAt.a9 (by assumption) | exact MAt.a10 (by assumption) | exact MAt.a11 (by assumption) | exact MAt.a12 (by assumption) | exact MAt.a13 (by assumption) | exact MAt.a14 (by assumption) | exact MAt.a15 (by assumption) | exact MAt.a16 (by assumption)) (by rfl) dX8_account_84 ?_
    refine r_iconst (v := nI 1) dX8_account_87 (by decide) ?_
    refine r_iald_n (by first | exact MAt.o (by assumption) | exact MAt.a1 (by assumption) | exact MAt.a2 (by assumption) | exact MAt.a3 (by assumption) | exact MAt.a4 (by assumption) | exact MAt.a5 (by assumption) | exact MAt.a6 (by assumption) | exact MAt.a7 (by assumption) | exact MAt.a8 (by assumption) | exact MAt.a9 (by assumption) | exact MAt.a10 (by assumption) | exact MAt.a11 (by assumption) | exact MAt.a12 (by assumption) | exact MAt.a13 (by assumption) | exact MAt.a14 (by assumption) | exact MAt.a15 (by assumption) | exact MAt.a16 (by assumption)) (by rfl) (by omega) (by omega) dX8_account_88 ?_
    refine r_iret rfl (by first | rfl | exact bI_nar _ | exact (pk_charN (by first | assumption | omega)).1) dX8_account_89 ?_
    rw [e1]; exact hq _ (fin _ hM)
  · refine r_iload_n dX8_account_28 rfl ?_
    refine r_tableIn (off := 61) (tgt := 90) dX8_account_29 (by decide) (by decide) (by decide) (by decide) ?_
    first | refine r_aload_n dX8_account_90 rfl ?_ | refine r_aload_nq dX8_account_90 rfl ?_ | refine r_aload_nN dX8_account_90 rfl ?_
    refine r_getf f_X8_9_7 (by first | exact MAt.o (by assumption) | exact MAt.a1 (by assumption) | exact MAt.a2 (by assumption) | exact MAt.a3 (by assumption) | exact MAt.a4 (by assumption) | exact MAt.a5 (by assumption) | exact MAt.a6 (by assumption) | exact MAt.a7 (by assumption) | exact MAt.a8 (by assumption) | exact MAt.a9 (by assumption) | exact MAt.a10 (by assumption) | exact MAt.a11 (by assumption) | exact MAt.a12 (by assumption) | exact MAt.a13 (by assumption) | exact MAt.a14 (by assumption) | exact MAt.a15 (by assumption) | exact MAt.a16 (by assumption)) (by rfl) dX8_account_91 ?_
    refine r_bipush (v := nI 6) dX8_account_94 (by decide) ?_
    refine r_iald_n (by first | exact MAt.o (by assumption) | exact MAt.a1 (by assumption) | exact MAt.a2 (by assumption) | exact MAt.a3 (by assumption) | exact MAt.a4 (by assumption) | exact MAt.a5 (by assumption) | exact MAt.a6 (by assumption) | exact MAt.a7 (by assumption) | exact MAt.a8 (by assumption) | exact MAt.a9 (by assumption) | exact MAt.a10 (by assumption) | exact MAt.a11 (by assumption) | exact MAt.a12 (by assumption) | exact MAt.a13 (by assumption) | exact MAt.a14 (by assumption) | exact MAt.a15 (by assumption) | exact MAt.a16 (by assumption)) (by rfl) (by omega) (by omega) dX8_account_96 ?_
    first | refine r_aload_n dX8_account_97 rfl ?_ | refine r_aload_nq dX8_account_97 rfl ?_ | refine r_aload_nN dX8_account_97 rfl ?_
    refine r_getf f_X8_9_7 (by first | exact MAt.o (by assumption) | exact MAt.a1 (by assumption) | exact MAt.a2 (by assumption) | exact MAt.a3 (by assumption) | exact MAt.a4 (by assumption) | exact MAt.a5 (by assumption) | exact MAt.a6 (by assumption) | exact MAt.a7 (by assumption) | exact MAt.a8 (by assumption) | exact MAt.a9 (by assumption) | exact MAt.a10 (by assumption) | exact MAt.a11 (by assumption) | exact MAt.a12 (by assumption) | exact MAt.a13 (by assumption) | exact MAt.a14 (by assumption) | exact MAt.a15 (by assumption) | exact MAt.a16 (by assumption)) (by rfl) dX8_account_98 ?_
    refine r_bipush (v := nI 7) dX8_account_101 (by decide) ?_
    refine r_iald_n (by first | exact MAt.o (by assumption) | exact MAt.a1 (by assumption) | exact MAt.a2 (by assumption) | exact MAt.a3 (by assumption) | exact MAt.a4 (by assumption) | exact MAt.a5 (by assumption) | exact MAt.a6 (by assumption) | exact MAt.a7 (by assumption) | exact MAt.a8 (by assumption) | exact MAt.a9 (by assumption) | exact MAt.a10 (by assumption) | exact MAt.a11 (by assumption) | exact MAt.a12 (by assumption) | exact MAt.a13 (by assumption) | exact MAt.a14 (by assumption) | exact MAt.a15 (by assumption) | exact MAt.a16 (by assumption)) (by rfl) (by omega) (by omega) dX8_account_103 ?_
    first | refine r_iadd_n dX8_account_104 ?_ | refine r_iadd dX8_account_104 ?_
    first | refine r_aload_n dX8_account_105 rfl ?_ | refine r_aload_nq dX8_account_105 rfl ?_ | refine r_aload_nN dX8_account_105 rfl ?_
    refine r_getf f_X8_9_7 (by first | exact MAt.o (by assumption) | exact MAt.a1 (by assumption) | exact MAt.a2 (by assumption) | exact MAt.a3 (by assumption) | exact MAt.a4 (by assumption) | exact MAt.a5 (by assumption) | exact MAt.a6 (by assumption) | exact MAt.a7 (by assumption) | exact MAt.a8 (by assumption) | exact MAt.a9 (by assumption) | exact MAt.a10 (by assumption) | exact MAt.a11 (by assumption) | exact MAt.a12 (by assumption) | exact MAt.a13 (by assumption) | exact MAt.a14 (by assumption) | exact MAt.a15 (by assumption) | exact MAt.a16 (by assumption)) (by rfl) dX8_account_106 ?_
    refine r_bipush (v := nI 8) dX8_account_109 (by decide) ?_
    refine r_iald_n (by first | exact MAt.o (by assumption) | exact MAt.a1 (by assumption) | exact MAt.a2 (by assumption) | exact MAt.a3 (by assumption) | exact MAt.a4 (by assumption) | exact MAt.a5 (by assumption) | exact MAt.a6 (by assumption) | exact MAt.a7 (by assumption) | exact MAt.a8 (by assumption) | exact MAt.a9 (by assumption) | exact MAt.a10 (by assumption) | exact MAt.a11 (by assumption) | exact MAt.a12 (by assumption) | exact MAt.a13 (by assumption) | exact MAt.a14 (by assumption) | exact MAt.a15 (by assumption) | exact MAt.a16 (by assumption)) (by rfl) (by omega) (by omega) dX8_account_111 ?_
    first | refine r_iadd_n dX8_account_112 ?_ | refine r_iadd dX8_account_112 ?_
    refine r_iret rfl (by first | rfl | exact bI_nar _ | exact (pk_charN (by first | assumption | omega)).1) dX8_account_113 ?_
    rw [(e3 0 (by decide)).2.2.1, (e3 1 (by decide)).2.2.1, (e3 2 (by decide)).2.2.1]
    exact hq _ (fin _ hM)
  · refine r_iload_n dX8_account_28 rfl ?_
    refine r_tableIn (off := 85) (tgt := 114) dX8_account_29 (by decide) (by decide) (by decide) (by decide) ?_
    first | refine r_aload_n dX8_account_114 rfl ?_ | refine r_aload_nq dX8_account_114 rfl ?_ | refine r_aload_nN dX8_account_114 rfl ?_
    refine r_callV s_X8_291_v dX8_account_115 (by first | exact MAt.o (by assumption) | exact MAt.a1 (by assumption) | exact MAt.a2 (by assumption) | exact MAt.a3 (by assumption) | exact MAt.a4 (by assumption) | exact MAt.a5 (by assumption) | exact MAt.a6 (by assumption) | exact MAt.a7 (by assumption) | exact MAt.a8 (by assumption) | exact MAt.a9 (by assumption) | exact MAt.a10 (by assumption) | exact MAt.a11 (by assumption) | exact MAt.a12 (by assumption) | exact MAt.a13 (by assumption) | exact MAt.a14 (by assumption) | exact MAt.a15 (by assumption) | exact MAt.a16 (by assumption)) (by rfl) rfl (Nat.le_of_ble_eq_true rfl) (m_allWorth hM hP.1.1 hR ?_)
    refine mK_r ?_
    refine r_iret rfl (by first | rfl | exact bI_nar _ | exact (pk_charN (by first | assumption | omega)).1) dX8_account_118 ?_
    exact hq _ (fin _ hM)
  · refine r_iload_n dX8_account_28 rfl ?_
    refine r_tableIn (off := 90) (tgt := 119) dX8_account_29 (by decide) (by decide) (by decide) (by decide) ?_
    first | refine r_aload_n dX8_account_119 rfl ?_ | refine r_aload_nq dX8_account_119 rfl ?_ | refine r_aload_nN dX8_account_119 rfl ?_
    refine r_callV s_X8_294_v dX8_account_120 (by first | exact MAt.o (by assumption) | exact MAt.a1 (by assumption) | exact MAt.a2 (by assumption) | exact MAt.a3 (by assumption) | exact MAt.a4 (by assumption) | exact MAt.a5 (by assumption) | exact MAt.a6 (by assumption) | exact MAt.a7 (by assumption) | exact MAt.a8 (by assumption) | exact MAt.a9 (by assumption) | exact MAt.a10 (by assumption) | exact MAt.a11 (by assumption) | exact MAt.a12 (by assumption) | exact MAt.a13 (by assumption) | exact MAt.a14 (by assumption) | exact MAt.a15 (by assumption) | exact MAt.a16 (by assumption)) (by rfl) rfl (Nat.le_of_ble_eq_true rfl) (m_choices hM (by omega) (fun k hk => by rw [(e5 k (by omega)).1]; exact xOk_so hP.1 k (by omega)) ?_)
    refine mK_r ?_
    have e : cntF (fun k => decide (A 1 (37 + 3 * k) = 7)) (A 1 1) = cntF (fun k => decide (wso (xW X) k = 7)) (wn (xW X)) := by
      rw [e1]; exact cntF_congr (fun k hk => by rw [(e5 k hk).1])
    rw [e]
    refine r_iret rfl (by first | rfl | exact bI_nar _ | exact (pk_charN (by first | assumption | omega)).1) dX8_account_123 ?_
    exact hq _ (fin _ hM)
  · refine r_iload_n dX8_account_28 rfl ?_
    refine r_tableIn (off := 95) (tgt := 124) dX8_account_29 (by decide) (by decide) (by decide) (by decide) ?_
    first | refine r_aload_n dX8_account_124 rfl ?_ | refine r_aload_nq dX8_account_124 rfl ?_ | refine r_aload_nN dX8_account_124 rfl ?_
    refine r_callV s_X8_169_v dX8_account_125 (by first | exact MAt.o (by assumption) | exact MAt.a1 (by assumption) | exact MAt.a2 (by assumption) | exact MAt.a3 (by assumption) | exact MAt.a4 (by assumption) | exact MAt.a5 (by assumption) | exact MAt.a6 (by assumption) | exact MAt.a7 (by assumption) | exact MAt.a8 (by assumption) | exact MAt.a9 (by assumption) | exact MAt.a10 (by assumption) | exact MAt.a11 (by assumption) | exact MAt.a12 (by assumption) | exact MAt.a13 (by assumption) | exact MAt.a14 (by assumption) | exact MAt.a15 (by assumption) | exact MAt.a16 (by assumption)) (by rfl) rfl (Nat.le_of_ble_eq_true rfl) (m_nests hM hb (by omega) (wso (xW X)) (fun k hk => (e5 k (by omega)).1.symm) (fun k hk => xOk_so hP.1 k (by omega)) (fun M F' A' hM' kF kA hN => ?_))
    refine mK_r ?_
    rw [e1] at hN ⊢
    have hX : MX B M m X (F' 6) := MX.kp hM' hP hR (MKp.t6.tr (MKp.of kF kA))
    rw [kF 6 (by decide), fU_eq] at hX
    first | refine r_if_eq_b (tgt := 138) dX8_account_128 (by decide) (fun h128 => ?_) (fun h128 => ?_) | refine r_if_eq_n (tgt := 138) dX8_account_128 (by decide) (by omega) (fun h128 => ?_) (fun h128 => ?_) | refine r_if_eq (tgt := 138) dX8_account_128 (by decide) (fun h128 => ?_) (fun h128 => ?_)
    · rw [if_neg (by rw [h128]; decide)] at hq
      refine r_iconst (v := -1) dX8_account_138 (by decide) ?_
      refine r_iret rfl (by first | rfl | exact bI_nar _ | exact (pk_charN (by first | assumption | omega)).1) dX8_account_139 ?_
      exact hq _ hX
    · rw [if_pos h128] at hq
      first | refine r_aload_n dX8_account_131 rfl ?_ | refine r_aload_nq dX8_account_131 rfl ?_ | refine r_aload_nN dX8_account_131 rfl ?_
      refine r_getf f_X8_160_7 (by first | exact MAt.o (by assumption) | exact MAt.a1 (by assumption) | exact MAt.a2 (by assumption) | exact MAt.a3 (by assumption) | exact MAt.a4 (by assumption) | exact MAt.a5 (by assumption) | exact MAt.a6 (by assumption) | exact MAt.a7 (by assumption) | exact MAt.a8 (by assumption) | exact MAt.a9 (by assumption) | exact MAt.a10 (by assumption) | exact MAt.a11 (by assumption) | exact MAt.a12 (by assumption) | exact MAt.a13 (by assumption) | exact MAt.a14 (by assumption) | exact MAt.a15 (by assumption) | exact MAt.a16 (by assumption)) (by rfl) dX8_account_132 ?_
      refine r_goto (tgt := 139) dX8_account_135 (by decide) ?_
      refine r_iret rfl (by first | rfl | exact bI_nar _ | exact (pk_charN (by first | assumption | omega)).1) dX8_account_139 ?_
      rw [(hN h128).2.1]
      exact hq _ hX
  · refine r_iload_n dX8_account_28 rfl ?_
    refine r_tableIn (off := 111) (tgt := 140) dX8_account_29 (by decide) (by decide) (by decide) (by decide) ?_
    first | refine r_aload_n dX8_account_140 rfl ?_ | refine r_aload_nq dX8_account_140 rfl ?_ | refine r_aload_nN dX8_account_140 rfl ?_
    refine r_getf f_X8_9_7 (by first | exact MAt.o (by assumption) | exact MAt.a1 (by assumption) | exact MAt.a2 (by assumption) | exact MAt.a3 (by assumption) | exact MAt.a4 (by assumption) | exact MAt.a5 (by assumption) | exact MAt.a6 (by assumption) | exact MAt.a7 (by assumption) | exact MAt.a8 (by assumption) | exact MAt.a9 (by assumption) | exact MAt.a10 (by assumption) | exact MAt.a11 (by assumption) | exact MAt.a12 (by assumption) | exact MAt.a13 (by assumption) | exact MAt.a14 (by assumption) | exact MAt.a15 (by assumption) | exact MAt.a16 (by assumption)) (by rfl) dX8_account_141 ?_
    refine r_iconst (v := nI 2) dX8_account_144 (by decide) ?_
    refine r_iald_n (by first | exact MAt.o (by assumption) | exact MAt.a1 (by assumption) | exact MAt.a2 (by assumption) | exact MAt.a3 (by assumption) | exact MAt.a4 (by assumption) | exact MAt.a5 (by assumption) | exact MAt.a6 (by assumption) | exact MAt.a7 (by assumption) | exact MAt.a8 (by assumption) | exact MAt.a9 (by assumption) | exact MAt.a10 (by assumption) | exact MAt.a11 (by assumption) | exact MAt.a12 (by assumption) | exact MAt.a13 (by assumption) | exact MAt.a14 (by assumption) | exact MAt.a15 (by assumption) | exact MAt.a16 (by assumption)) (by rfl) (by omega) (by omega) dX8_account_145 ?_
    refine r_iret rfl (by first | rfl | exact bI_nar _ | exact (pk_charN (by first | assumption | omega)).1) dX8_account_146 ?_
    rw [e2]; exact hq _ (fin _ hM)
  · refine r_iload_n dX8_account_28 rfl ?_
    refine r_tableIn (off := 118) (tgt := 147) dX8_account_29 (by decide) (by decide) (by decide) (by decide) ?_
    first | refine r_aload_n dX8_account_147 rfl ?_ | refine r_aload_nq dX8_account_147 rfl ?_ | refine r_aload_nN dX8_account_147 rfl ?_
    refine r_getf f_X8_281_7 (by first | exact MAt.o (by assumption) | exact MAt.a1 (by assumption) | exact MAt.a2 (by assumption) | exact MAt.a3 (by assumption) | exact MAt.a4 (by assumption) | exact MAt.a5 (by assumption) | exact MAt.a6 (by assumption) | exact MAt.a7 (by assumption) | exact MAt.a8 (by assumption) | exact MAt.a9 (by assumption) | exact MAt.a10 (by assumption) | exact MAt.a11 (by assumption) | exact MAt.a12 (by assumption) | exact MAt.a13 (by assumption) | exact MAt.a14 (by assumption) | exact MAt.a15 (by assumption) | exact MAt.a16 (by assumption)) (by rfl) dX8_account_148 ?_
    refine r_iret rfl (by first | rfl | exact bI_nar _ | exact (pk_charN (by first | assumption | omega)).1) dX8_account_151 ?_
    rw [show fU F 6 0 28 = (xT X).length from hP.2.2.2.2.1]; exact hq _ (fin _ hM)
  · refine r_iload_n dX8_account_28 rfl ?_
    refine r_tableOut (tgt := 152) dX8_account_29 (by decide) (by decide) ?_
    first | refine r_aload_n dX8_account_152 rfl ?_ | refine r_aload_nq dX8_account_152 rfl ?_ | refine r_aload_nN dX8_account_152 rfl ?_
    refine r_getf f_X8_73_7 (by first | exact MAt.o (by assumption) | exact MAt.a1 (by assumption) | exact MAt.a2 (by assumption) | exact MAt.a3 (by assumption) | exact MAt.a4 (by assumption) | exact MAt.a5 (by assumption) | exact MAt.a6 (by assumption) | exact MAt.a7 (by assumption) | exact MAt.a8 (by assumption) | exact MAt.a9 (by assumption) | exact MAt.a10 (by assumption) | exact MAt.a11 (by assumption) | exact MAt.a12 (by assumption) | exact MAt.a13 (by assumption) | exact MAt.a14 (by assumption) | exact MAt.a15 (by assumption) | exact MAt.a16 (by assumption)) (by rfl) dX8_account_153 ?_
    refine r_iret rfl (by first | rfl | exact bI_nar _ | exact (pk_charN (by first | assumption | omega)).1) dX8_account_156 ?_
    rw [show fU F 6 0 5 = (xH X).length from hP.2.1]; exact hq _ (fin _ hM)
theorem m_isWell (h : MX B M m X th) (hb : mGb G ≤ m) (hq : ∀ M, MX B M m X 0 → Q (.inl (some (.int (bI true)))) M t u) : mMet G d zX8_isWell [.ref m] M t u Q := by
  refine m_intro (by decide +kernel) ⟨Nat.le_of_ble_eq_true rfl, Nat.le_of_ble_eq_true rfl⟩ ?_
  show mW G _ _ 0 [some (.ref m), none, none, none] [] _ _ _ _
  obtain ⟨F, A, hM, hP, hR, h6⟩ := h.un
  obtain ⟨⟨e0, hm⟩, ⟨e1, hn⟩, ⟨e2, hcg⟩, e3, e4, e5⟩ := mR_up hP.1.1 hR
  first | refine r_aload_n dX8_isWell_0 rfl ?_ | refine r_aload_nq dX8_isWell_0 rfl ?_ | refine r_aload_nN dX8_isWell_0 rfl ?_
  refine r_iconst (v := nI 0) dX8_isWell_1 (by decide) ?_
  refine r_putf f_X8_64_7 ft_7_6 (by first | exact MAt.o (by assumption) | exact MAt.a1 (by assumption) | exact MAt.a2 (by assumption) | exact MAt.a3 (by assumption) | exact MAt.a4 (by assumption) | exact MAt.a5 (by assumption) | exact MAt.a6 (by assumption) | exact MAt.a7 (by assumption) | exact MAt.a8 (by assumption) | exact MAt.a9 (by assumption) | exact MAt.a10 (by assumption) | exact MAt.a11 (by assumption) | exact MAt.a12 (by assumption) | exact MAt.a13 (by assumption) | exact MAt.a14 (by assumption) | exact MAt.a15 (by assumption) | exact MAt.a16 (by assumption)) (by omega) (by first | rfl | exact bI_nar _) (by first | rfl | exact bI_fit _) dX8_isWell_2 ?_
  refine MAt.p6 (by assumption) (fun M hM => ?_)
  refine r_iconst (v := nI 1) dX8_isWell_5 (by decide) ?_
  refine r_istore_n dX8_isWell_6 (by decide) ?_
  simp only [mst1, mclr]
  have inner : ∀ c, c < 3 → (∀ p, mW G zX8_isWell d 9 [some (.ref m), some (.int (bI true)), some (.int (nI (c + 1))), some (.int (nI p))] [] M t u Q) → ∀ n p, p + n = wcm (xW X) c → mW G zX8_isWell d 16 [some (.ref m), some (.int (bI true)), some (.int (nI c)), some (.int (nI p))] [] M t u Q := by
    intro c hc kk n
    have e3c := e3 c hc
    induction n with
    | zero =>
      intro p hp
      refine r_iload_n dX8_isWell_16 rfl ?_
      first | refine r_aload_n dX8_isWell_17 rfl ?_ | refine r_aload_nq dX8_isWell_17 rfl ?_ | refine r_aload_nN dX8_isWell_17 rfl ?_
      refine r_getf f_X8_9_7 (by first | exact MAt.o (by assumption) | exact MAt.a1 (by assumption) | exact MAt.a2 (by assumption) | exact MAt.a3 (by assumption) | exact MAt.a4 (by assumption) | exact MAt.a5 (by assumption) | exact MAt.a6 (by assumption) | exact MAt.a7 (by assumption) | exact MAt.a8 (by assumption) | exact MAt.a9 (by assumption) | exact MAt.a10 (by assumption) | exact MAt.a11 (by assumption) | exact MAt.a12 (by assumption) | exact MAt.a13 (by assumption) | exact MAt.a14 (by assumption) | exact MAt.a15 (by assumption) | exact MAt.a16 (by assumption)) (by rfl) dX8_isWell_18 ?_
      refine r_bipush (v := nI 6) dX8_isWell_21 (by decide) ?_
      refine r_iload_n dX8_isWell_23 rfl ?_
      first | refine r_iadd_n dX8_isWell_24 ?_ | refine r_iadd dX8_isWell_24 ?_
      refine r_iald_n (by first | exact MAt.o (by assumption) | exact MAt.a1 (by assumption) | exact MAt.a2 (by assumption) | exact MAt.a3 (by assumption) | exact MAt.a4 (by assumption) | exact MAt.a5 (by assumption) | exact MAt.a6 (by assumption) | exact MAt.a7 (by assumption) | exact MAt.a8 (by assumption) | exact MAt.a9 (by assumption) | exact MAt.a10 (by assumption) | exact MAt.a11 (by assumption) | exact MAt.a12 (by assumption) | exact MAt.a13 (by assumption) | exact MAt.a14 (by assumption) | exact MAt.a15 (by assumption) | exact MAt.a16 (by assumption)) (by rfl) (by omega) (by omega) dX8_isWell_25 ?_
      first | refine r_icmp_ge_n (tgt := 70) dX8_isWell_26 (by decide) (by omega) (by omega) (fun h26 => ?_) (fun h26 => by exfalso; omega) | refine r_icmp_ge (tgt := 70) dX8_isWell_26 (by decide) (fun h26 => ?_) (fun h26 => by exfalso; omega)
      first | refine r_iinc_n 1 dX8_isWell_70 rfl (by decide) ?_ | refine r_iinc dX8_isWell_70 rfl rfl (by decide) ?_
      simp only [mst1, mclr]
      refine r_goto (tgt := 9) dX8_isWell_73 (by decide) ?_
      exact kk p
    | succ n ih =>
      intro p hp
      obtain ⟨q1, q2, q3⟩ := e3c.2.2.2.2 p (by omega)
      have e4g := e4 _ q2
      have hx : A 1 (21 + A 1 (9 + 4 * c + p)) = c := by rw [q1, e4g.1, q3]
      have hx2 : A 1 (9 + 4 * c + p) < 8 := by omega
      refine r_iload_n dX8_isWell_16 rfl ?_
      first | refine r_aload_n dX8_isWell_17 rfl ?_ | refine r_aload_nq dX8_isWell_17 rfl ?_ | refine r_aload_nN dX8_isWell_17 rfl ?_
      refine r_getf f_X8_9_7 (by first | exact MAt.o (by assumption) | exact MAt.a1 (by assumption) | exact MAt.a2 (by assumption) | exact MAt.a3 (by assumption) | exact MAt.a4 (by assumption) | exact MAt.a5 (by assumption) | exact MAt.a6 (by assumption) | exact MAt.a7 (by assumption) | exact MAt.a8 (by assumption) | exact MAt.a9 (by assumption) | exact MAt.a10 (by assumption) | exact MAt.a11 (by assumption) | exact MAt.a12 (by assumption) | exact MAt.a13 (by assumption) | exact MAt.a14 (by assumption) | exact MAt.a15 (by assumption) | exact MAt.a16 (by assumption)) (by rfl) dX8_isWell_18 ?_
      refine r_bipush (v := nI 6) dX8_isWell_21 (by decide) ?_
      refine r_iload_n dX8_isWell_23 rfl ?_
      first | refine r_iadd_n dX8_isWell_24 ?_ | refine r_iadd dX8_isWell_24 ?_
      refine r_iald_n (by first | exact MAt.o (by assumption) | exact MAt.a1 (by assumption) | exact MAt.a2 (by assumption) | exact MAt.a3 (by assumption) | exact MAt.a4 (by assumption) | exact MAt.a5 (by assumption) | exact MAt.a6 (by assumption) | exact MAt.a7 (by assumption) | exact MAt.a8 (by assumption) | exact MAt.a9 (by assumption) | exact MAt.a10 (by assumption) | exact MAt.a11 (by assumption) | exact MAt.a12 (by assumption) | exact MAt.a13 (by assumption) | exact MAt.a14 (by assumption) | exact MAt.a15 (by assumption) | exact MAt.a16 (by assumption)) (by rfl) (by omega) (by omega) dX8_isWell_25 ?_
      first | refine r_icmp_ge_n (tgt := 70) dX8_isWell_26 (by decide) (by omega) (by omega) (fun h26 => by exfalso; omega) (fun h26 => ?_) | refine r_icmp_ge (tgt := 70) dX8_isWell_26 (by decide) (fun h26 => by exfalso; omega) (fun h26 => ?_)
      refine r_iload_n dX8_isWell_29 rfl ?_
      refine r_if_eq_b (tgt := 62) dX8_isWell_30 (by decide) (fun h30 => absurd h30 (by decide)) (fun h30 => ?_)
      first | refine r_aload_n dX8_isWell_33 rfl ?_ | refine r_aload_nq dX8_isWell_33 rfl ?_ | refine r_aload_nN dX8_isWell_33 rfl ?_
      refine r_getf f_X8_9_7 (by first | exact MAt.o (by assumption) | exact MAt.a1 (by assumption) | exact MAt.a2 (by assumption) | exact MAt.a3 (by assumption) | exact MAt.a4 (by assumption) | exact MAt.a5 (by assumption) | exact MAt.a6 (by assumption) | exact MAt.a7 (by assumption) | exact MAt.a8 (by assumption) | exact MAt.a9 (by assumption) | exact MAt.a10 (by assumption) | exact MAt.a11 (by assumption) | exact MAt.a12 (by assumption) | exact MAt.a13 (by assumption) | exact MAt.a14 (by assumption) | exact MAt.a15 (by assumption) | exact MAt.a16 (by assumption)) (by rfl) dX8_isWell_34 ?_
      refine r_bipush (v := nI 21) dX8_isWell_37 (by decide) ?_
      first | refine r_aload_n dX8_isWell_39 rfl ?_ | refine r_aload_nq dX8_isWell_39 rfl ?_ | refine r_aload_nN dX8_isWell_39 rfl ?_
      refine r_getf f_X8_9_7 (by first | exact MAt.o (by assumption) | exact MAt.a1 (by assumption) | exact MAt.a2 (by assumption) | exact MAt.a3 (by assumption) | exact MAt.a4 (by assumption) | exact MAt.a5 (by assumption) | exact MAt.a6 (by assumption) | exact MAt.a7 (by assumption) | exact MAt.a8 (by assumption) | exact MAt.a9 (by assumption) | exact MAt.a10 (by assumption) | exact MAt.a11 (by assumption) | exact MAt.a12 (by assumption) | exact MAt.a13 (by assumption) | exact MAt.a14 (by assumption) | exact MAt.a15 (by assumption) | exact MAt.a16 (by assumption)) (by rfl) dX8_isWell_40 ?_
      refine r_bipush (v := nI 9) dX8_isWell_43 (by decide) ?_
      refine r_iconst (v := nI 4) dX8_isWell_45 (by decide) ?_
      refine r_iload_n dX8_isWell_46 rfl ?_
      first | refine r_imul_n dX8_isWell_47 ?_ | refine r_imul dX8_isWell_47 ?_
      first | refine r_iadd_n dX8_isWell_48 ?_ | refine r_iadd dX8_isWell_48 ?_
      refine r_iload_n dX8_isWell_49 rfl ?_
      first | refine r_iadd_n dX8_isWell_50 ?_ | refine r_iadd dX8_isWell_50 ?_
      refine r_iald_n (by first | exact MAt.o (by assumption) | exact MAt.a1 (by assumption) | exact MAt.a2 (by assumption) | exact MAt.a3 (by assumption) | exact MAt.a4 (by assumption) | exact MAt.a5 (by assumption) | exact MAt.a6 (by assumption) | exact MAt.a7 (by assumption) | exact MAt.a8 (by assumption) | exact MAt.a9 (by assumption) | exact MAt.a10 (by assumption) | exact MAt.a11 (by assumption) | exact MAt.a12 (by assumption) | exact MAt.a13 (by assumption) | exact MAt.a14 (by assumption) | exact MAt.a15 (by assumption) | exact MAt.a16 (by assumption)) (by rfl) (by omega) (by omega) dX8_isWell_51 ?_
      first | refine r_iadd_n dX8_isWell_52 ?_ | refine r_iadd dX8_isWell_52 ?_
      refine r_iald_n (by first | exact MAt.o (by assumption) | exact MAt.a1 (by assumption) | exact MAt.a2 (by assumption) | exact MAt.a3 (by assumption) | exact MAt.a4 (by assumption) | exact MAt.a5 (by assumption) | exact MAt.a6 (by assumption) | exact MAt.a7 (by assumption) | exact MAt.a8 (by assumption) | exact MAt.a9 (by assumption) | exact MAt.a10 (by assumption) | exact MAt.a11 (by assumption) | exact MAt.a12 (by assumption) | exact MAt.a13 (by assumption) | exact MAt.a14 (by assumption) | exact MAt.a15 (by assumption) | exact MAt.a16 (by assumption)) (by rfl) (by omega) (by omega) dX8_isWell_53 ?_
      refine r_iload_n dX8_isWell_54 rfl ?_
      first | refine r_icmp_ne_n (tgt := 62) dX8_isWell_55 (by decide) (by omega) (by omega) (fun h55 => by exfalso; omega) (fun h55 => ?_) | refine r_icmp_ne_pn (tgt := 62) dX8_isWell_55 (by decide) (by omega) (by omega) (fun h55 => by exfalso; omega) (fun h55 => ?_) | refine r_icmp_ne_pm (tgt := 62) dX8_isWell_55 (by decide) (by omega) (fun h55 => by exfalso; omega) (fun h55 => ?_) | refine r_icmp_ne (tgt := 62) dX8_isWell_55 (by decide) (fun h55 => by exfalso; omega) (fun h55 => ?_)
      refine r_iconst (v := nI 1) dX8_isWell_58 (by decide) ?_
      refine r_goto (tgt := 63) dX8_isWell_59 (by decide) ?_
      refine r_istore_n dX8_isWell_63 (by decide) ?_
      simp only [mst1, mclr]
      first | refine r_iinc_n 1 dX8_isWell_64 rfl (by decide) ?_ | refine r_iinc dX8_isWell_64 rfl rfl (by decide) ?_
      simp only [mst1, mclr]
      refine r_goto (tgt := 16) dX8_isWell_67 (by decide) ?_
      exact ih (p + 1) (by omega)
  have outer : ∀ n c p, c + n = 3 → mW G zX8_isWell d 9 [some (.ref m), some (.int (bI true)), some (.int (nI c)), some (.int (nI p))] [] M t u Q := by
    intro n
    induction n with
    | zero =>
      intro c p hc
      refine r_iload_n dX8_isWell_9 rfl ?_
      refine r_iconst (v := nI 3) dX8_isWell_10 (by decide) ?_
      first | refine r_icmp_ge_n (tgt := 76) dX8_isWell_11 (by decide) (by omega) (by omega) (fun h11 => ?_) (fun h11 => by exfalso; omega) | refine r_icmp_ge (tgt := 76) dX8_isWell_11 (by decide) (fun h11 => ?_) (fun h11 => by exfalso; omega)
      refine r_iload_n dX8_isWell_76 rfl ?_
      refine r_iret rfl (by first | rfl | exact bI_nar _ | exact (pk_charN (by first | assumption | omega)).1) dX8_isWell_77 ?_
      exact hq _ (MX_iff.mpr ⟨_, _, hM, hP.f6 0, hR, rfl⟩)
    | succ n ih =>
      intro c p hc
      refine r_iload_n dX8_isWell_9 rfl ?_
      refine r_iconst (v := nI 3) dX8_isWell_10 (by decide) ?_
      first | refine r_icmp_ge_n (tgt := 76) dX8_isWell_11 (by decide) (by omega) (by omega) (fun h11 => by exfalso; omega) (fun h11 => ?_) | refine r_icmp_ge (tgt := 76) dX8_isWell_11 (by decide) (fun h11 => by exfalso; omega) (fun h11 => ?_)
      refine r_iconst (v := nI 0) dX8_isWell_14 (by decide) ?_
      refine r_istore_n dX8_isWell_15 (by decide) ?_
      simp only [mst1, mclr]
      exact inner c (by omega) (fun p => ih (c + 1) p (by omega)) (wcm (xW X) c) 0 (by omega)
  refine r_iconst (v := nI 0) dX8_isWell_7 (by decide) ?_
  refine r_istore_n dX8_isWell_8 (by decide) ?_
  simp only [mst1, mclr]
  refine r_iload_n dX8_isWell_9 rfl ?_
  refine r_iconst (v := nI 3) dX8_isWell_10 (by decide) ?_
  first | refine r_icmp_ge_n (tgt := 76) dX8_isWell_11 (by decide) (by omega) (by omega) (fun h11 => by exfalso; omega) (fun h11 => ?_) | refine r_icmp_ge (tgt := 76) dX8_isWell_11 (by decide) (fun h11 => by exfalso; omega) (fun h11 => ?_)
  refine r_iconst (v := nI 0) dX8_isWell_14 (by decide) ?_
  refine r_istore_n dX8_isWell_15 (by decide) ?_
  simp only [mst1, mclr]
  exact inner 0 (by omega) (fun p => outer 2 1 p (by omega)) (wcm (xW X) 0) 0 (by omega)
theorem m_meanWorth (h : MX B M m X th) (hb : mGb G ≤ m) (hq : ∀ M, MX B M m X (spMean X).1 → Q (.inl (some (.double (spMean X).2))) M t u) : mMet G (d + 1) zX8_meanWorth [.ref m] M t u Q := by
  refine m_intro (by decide +kernel) ⟨Nat.le_of_ble_eq_true rfl, Nat.le_of_ble_eq_true rfl⟩ ?_
  show mW G _ _ 0 [some (.ref m)] [] _ _ _ _
  obtain ⟨F, A, hM, hP, hR, h6⟩ := h.un
  obtain ⟨⟨e0, hm⟩, ⟨e1, hn⟩, ⟨e2, hcg⟩, e3, e4, e5⟩ := mR_up hP.1.1 hR
  have hal := wAll_le hP.1.1
  unfold spMean at hq
  first | refine r_aload_n dX8_meanWorth_0 rfl ?_ | refine r_aload_nq dX8_meanWorth_0 rfl ?_ | refine r_aload_nN dX8_meanWorth_0 rfl ?_
  first | refine r_aload_n dX8_meanWorth_1 rfl ?_ | refine r_aload_nq dX8_meanWorth_1 rfl ?_ | refine r_aload_nN dX8_meanWorth_1 rfl ?_
  refine r_getf f_X8_9_7 (by first | exact MAt.o (by assumption) | exact MAt.a1 (by assumption) | exact MAt.a2 (by assumption) | exact MAt.a3 (by assumption) | exact MAt.a4 (by assumption) | exact MAt.a5 (by assumption) | exact MAt.a6 (by assumption) | exact MAt.a7 (by assumption) | exact MAt.a8 (by assumption) | exact MAt.a9 (by assumption) | exact MAt.a10 (by assumption) | exact MAt.a11 (by assumption) | exact MAt.a12 (by assumption) | exact MAt.a13 (by assumption) | exact MAt.a14 (by assumption) | exact MAt.a15 (by assumption) | exact MAt.a16 (by assumption)) (by rfl) dX8_meanWorth_2 ?_
  refine r_iconst (v := nI 0) dX8_meanWorth_5 (by decide) ?_
  refine r_iald_n (by first | exact MAt.o (by assumption) | exact MAt.a1 (by assumption) | exact MAt.a2 (by assumption) | exact MAt.a3 (by assumption) | exact MAt.a4 (by assumption) | exact MAt.a5 (by assumption) | exact MAt.a6 (by assumption) | exact MAt.a7 (by assumption) | exact MAt.a8 (by assumption) | exact MAt.a9 (by assumption) | exact MAt.a10 (by assumption) | exact MAt.a11 (by assumption) | exact MAt.a12 (by assumption) | exact MAt.a13 (by assumption) | exact MAt.a14 (by assumption) | exact MAt.a15 (by assumption) | exact MAt.a16 (by assumption)) (by rfl) (by omega) (by omega) dX8_meanWorth_6 ?_
  refine r_if_ne_n (tgt := 14) dX8_meanWorth_7 (by decide) (by omega) (fun h7 => ?_) (fun h7 => ?_)
  · rw [if_neg (by omega)] at hq
    have hdd := dn_mean (a := wAll (xW X)) (b := wm (xW X)) (by omega) (by omega) (by omega)
    refine r_iconst (v := nI 0) dX8_meanWorth_14 (by decide) ?_
    refine r_putf f_X8_64_7 ft_7_6 (by first | exact MAt.o (by assumption) | exact MAt.a1 (by assumption) | exact MAt.a2 (by assumption) | exact MAt.a3 (by assumption) | exact MAt.a4 (by assumption) | exact MAt.a5 (by assumption) | exact MAt.a6 (by assumption) | exact MAt.a7 (by assumption) | exact MAt.a8 (by assumption) | exact MAt.a9 (by assumption) | exact MAt.a10 (by assumption) | exact MAt.a11 (by assumption) | exact MAt.a12 (by assumption) | exact MAt.a13 (by assumption) | exact MAt.a14 (by assumption) | exact MAt.a15 (by assumption) | exact MAt.a16 (by assumption)) (by omega) (by first | rfl | exact bI_nar _) (by first | rfl | exact bI_fit _) dX8_meanWorth_15 ?_
    refine MAt.p6 (by assumption) (fun M hM => ?_)
    first | refine r_aload_n dX8_meanWorth_18 rfl ?_ | refine r_aload_nq dX8_meanWorth_18 rfl ?_ | refine r_aload_nN dX8_meanWorth_18 rfl ?_
    refine r_getf f_X8_64_7 (by first | exact MAt.o (by assumption) | exact MAt.a1 (by assumption) | exact MAt.a2 (by assumption) | exact MAt.a3 (by assumption) | exact MAt.a4 (by assumption) | exact MAt.a5 (by assumption) | exact MAt.a6 (by assumption) | exact MAt.a7 (by assumption) | exact MAt.a8 (by assumption) | exact MAt.a9 (by assumption) | exact MAt.a10 (by assumption) | exact MAt.a11 (by assumption) | exact MAt.a12 (by assumption) | exact MAt.a13 (by assumption) | exact MAt.a14 (by assumption) | exact MAt.a15 (by assumption) | exact MAt.a16 (by assumption)) (by rfl) dX8_meanWorth_19 ?_
    rw [fU_eq]
    first | refine r_if_le_n (tgt := 29) dX8_meanWorth_22 (by decide) (by omega) (fun h22 => ?_) (fun h22 => by exfalso; omega) | refine r_if_le (tgt := 29) dX8_meanWorth_22 (by decide) (fun h22 => ?_) (fun h22 => by exfalso; omega)
    first | refine r_aload_n dX8_meanWorth_29 rfl ?_ | refine r_aload_nq dX8_meanWorth_29 rfl ?_ | refine r_aload_nN dX8_meanWorth_29 rfl ?_
    refine r_callV s_X8_291_v dX8_meanWorth_30 (by first | exact MAt.o (by assumption) | exact MAt.a1 (by assumption) | exact MAt.a2 (by assumption) | exact MAt.a3 (by assumption) | exact MAt.a4 (by assumption) | exact MAt.a5 (by assumption) | exact MAt.a6 (by assumption) | exact MAt.a7 (by assumption) | exact MAt.a8 (by assumption) | exact MAt.a9 (by assumption) | exact MAt.a10 (by assumption) | exact MAt.a11 (by assumption) | exact MAt.a12 (by assumption) | exact MAt.a13 (by assumption) | exact MAt.a14 (by assumption) | exact MAt.a15 (by assumption) | exact MAt.a16 (by assumption)) (by rfl) rfl (Nat.le_of_ble_eq_true rfl) (m_allWorth hM hP.1.1 hR ?_)
    refine mK_r ?_
    refine r_i2d dX8_meanWorth_33 ?_
    first | refine r_aload_n dX8_meanWorth_34 rfl ?_ | refine r_aload_nq dX8_meanWorth_34 rfl ?_ | refine r_aload_nN dX8_meanWorth_34 rfl ?_
    refine r_getf f_X8_9_7 (by first | exact MAt.o (by assumption) | exact MAt.a1 (by assumption) | exact MAt.a2 (by assumption) | exact MAt.a3 (by assumption) | exact MAt.a4 (by assumption) | exact MAt.a5 (by assumption) | exact MAt.a6 (by assumption) | exact MAt.a7 (by assumption) | exact MAt.a8 (by assumption) | exact MAt.a9 (by assumption) | exact MAt.a10 (by assumption) | exact MAt.a11 (by assumption) | exact MAt.a12 (by assumption) | exact MAt.a13 (by assumption) | exact MAt.a14 (by assumption) | exact MAt.a15 (by assumption) | exact MAt.a16 (by assumption)) (by rfl) dX8_meanWorth_35 ?_
    refine r_iconst (v := nI 0) dX8_meanWorth_38 (by decide) ?_
    refine r_iald_n (by first | exact MAt.o (by assumption) | exact MAt.a1 (by assumption) | exact MAt.a2 (by assumption) | exact MAt.a3 (by assumption) | exact MAt.a4 (by assumption) | exact MAt.a5 (by assumption) | exact MAt.a6 (by assumption) | exact MAt.a7 (by assumption) | exact MAt.a8 (by assumption) | exact MAt.a9 (by assumption) | exact MAt.a10 (by assumption) | exact MAt.a11 (by assumption) | exact MAt.a12 (by assumption) | exact MAt.a13 (by assumption) | exact MAt.a14 (by assumption) | exact MAt.a15 (by assumption) | exact MAt.a16 (by assumption)) (by rfl) (by omega) (by omega) dX8_meanWorth_39 ?_
    rw [e0]
    refine r_i2d dX8_meanWorth_40 ?_
    refine r_ddiv dX8_meanWorth_41 (hdd) ?_
    refine r_dret rfl dX8_meanWorth_42 ?_
    exact hq _ (MX_iff.mpr ⟨_, _, hM, hP.f6 0, hR, rfl⟩)
  · rw [if_pos (by omega)] at hq
    refine r_iconst (v := nI 1) dX8_meanWorth_10 (by decide) ?_
    refine r_goto (tgt := 15) dX8_meanWorth_11 (by decide) ?_
    refine r_putf f_X8_64_7 ft_7_6 (by first | exact MAt.o (by assumption) | exact MAt.a1 (by assumption) | exact MAt.a2 (by assumption) | exact MAt.a3 (by assumption) | exact MAt.a4 (by assumption) | exact MAt.a5 (by assumption) | exact MAt.a6 (by assumption) | exact MAt.a7 (by assumption) | exact MAt.a8 (by assumption) | exact MAt.a9 (by assumption) | exact MAt.a10 (by assumption) | exact MAt.a11 (by assumption) | exact MAt.a12 (by assumption) | exact MAt.a13 (by assumption) | exact MAt.a14 (by assumption) | exact MAt.a15 (by assumption) | exact MAt.a16 (by assumption)) (by omega) (by first | rfl | exact bI_nar _) (by first | rfl | exact bI_fit _) dX8_meanWorth_15 ?_
    refine MAt.p6 (by assumption) (fun M hM => ?_)
    first | refine r_aload_n dX8_meanWorth_18 rfl ?_ | refine r_aload_nq dX8_meanWorth_18 rfl ?_ | refine r_aload_nN dX8_meanWorth_18 rfl ?_
    refine r_getf f_X8_64_7 (by first | exact MAt.o (by assumption) | exact MAt.a1 (by assumption) | exact MAt.a2 (by assumption) | exact MAt.a3 (by assumption) | exact MAt.a4 (by assumption) | exact MAt.a5 (by assumption) | exact MAt.a6 (by assumption) | exact MAt.a7 (by assumption) | exact MAt.a8 (by assumption) | exact MAt.a9 (by assumption) | exact MAt.a10 (by assumption) | exact MAt.a11 (by assumption) | exact MAt.a12 (by assumption) | exact MAt.a13 (by assumption) | exact MAt.a14 (by assumption) | exact MAt.a15 (by assumption) | exact MAt.a16 (by assumption)) (by rfl) dX8_meanWorth_19 ?_
    rw [fU_eq]
    first | refine r_if_le_n (tgt := 29) dX8_meanWorth_22 (by decide) (by omega) (fun h22 => by exfalso; omega) (fun h22 => ?_) | refine r_if_le (tgt := 29) dX8_meanWorth_22 (by decide) (fun h22 => by exfalso; omega) (fun h22 => ?_)
    refine r_dconst0 dX8_meanWorth_25 ?_
    refine r_goto (tgt := 42) dX8_meanWorth_26 (by decide) ?_
    refine r_dret rfl dX8_meanWorth_42 ?_
    exact hq _ (MX_iff.mpr ⟨_, _, hM, hP.f6 1, hR, rfl⟩)
end REST
