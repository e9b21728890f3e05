section READ4
variable {G : mG} {d : Nat} {B M : mM} {m t u th : Nat} {X : XT} {F : Nat → Nat} {D : Int32} {A : Nat → Nat → Nat} {Q : mQt}
theorem MP.txt {E : Nat} {F' : Nat → Nat} {A' : Nat → Nat → Nat} (h : MP F A X) (hE : E ≤ 61) (hF : ∀ i, i ≠ 28 → i ≠ 29 → F' i = F i) (hA : ∀ i, i ≠ 16 → A' i = A i) (h28 : F' 28 = 0) (h29 : F' 29 = E) : MP F' A' (xTxt X [] E) := by
  obtain ⟨⟨o1, o2, o3, o4, o5, o6, o7, o8, o9, o10⟩, p2, p3, p4, p5, p6, p7, p8, p9, p10⟩ := h
  refine ⟨⟨o1, o2, o3, o4, Nat.zero_le _, (fun c hc => by cases hc), o7, o8, hE, o10⟩, ?_, ?_, ?_, h28, (fun i c hc => by cases hc), ?_, ?_, h29, ?_⟩
  · rw [hF 5 (by decide) (by decide)]; exact p2
  · rw [hA 4 (by decide)]; exact p3
  · rw [hF 3 (by decide) (by decide), hA 3 (by decide)]; exact p4
  · rw [hF 26 (by decide) (by decide)]; exact p7
  · rw [hA 14 (by decide)]; exact p8
  · rw [hF 7 (by decide) (by decide)]; exact p10
theorem m_read (h : MX B M m X th) (hb : mGb G ≤ m) (hc : wcg (xW X) < 1000) (hq : ∀ M, MX B M m (spRead X).2.2 (spRead X).1 → Q (.inl (some (.int (spRead X).2.1))) M t u) : mMet G (d + 6) zX8_read [.ref m] M t u Q := by
  refine m_intro (by decide +kernel) ⟨Nat.le_of_ble_eq_true rfl, Nat.le_of_ble_eq_true rfl⟩ ?_
  show mW G _ _ 0 [some (.ref m), none, none] [] _ _ _ _
  obtain ⟨F0, A0, h0⟩ := h.at
  first | refine r_aload_n dX8_read_0 rfl ?_ | refine r_aload_nq dX8_read_0 rfl ?_ | refine r_aload_nN dX8_read_0 rfl ?_
  refine r_callV s_X8_86_v dX8_read_1 (by first | exact MAt.o (by assumption) | exact MAt.a1 (by assumption) | exact MAt.a2 (by assumption) | exact MAt.a3 (by assumption) | exact MAt.a4 (by assumption) | exact MAt.a5 (by assumption) | exact MAt.a6 (by assumption) | exact MAt.a7 (by assumption) | exact MAt.a8 (by assumption) | exact MAt.a9 (by assumption) | exact MAt.a10 (by assumption) | exact MAt.a11 (by assumption) | exact MAt.a12 (by assumption) | exact MAt.a13 (by assumption) | exact MAt.a14 (by assumption) | exact MAt.a15 (by assumption) | exact MAt.a16 (by assumption)) (by rfl) rfl (Nat.le_of_ble_eq_true rfl) (m_keepX h hb (fun M F A hM hP hR hR2 h6 => ?_))
  refine mK_v ?_
  obtain ⟨⟨e0, hm⟩, ⟨e1, hn⟩, ⟨e2, hcg⟩, e3, e4, e5⟩ := mR_up hP.1.1 hR
  have o5 := hP.1.2.2.2.2.1
  have o6 := hP.1.2.2.2.2.2.1
  have p5 : F 28 = (xT X).length := hP.2.2.2.2.1
  have p6 := hP.2.2.2.2.2.1
  have htx : ∀ j, j < (xT X).length → A 15 j = (xT X).getD j 0 ∧ (xT X).getD j 0 < 65536 := fun j hj => ⟨p6 j _ (getD_mem hj), o6 _ (List.mem_of_getElem? (getD_mem hj))⟩
  obtain ⟨k1, k2, k3⟩ := rd_ok (xT X)
  have erd : ∀ r, (if (xT X).length = 0 then (1, []) else rdF (fun i => (xT X).getD i 0) (xT X).length (xT X).length 0) = r → rd (xT X) = r := fun r hr => hr
  unfold spRead at hq
  first | refine r_aload_n dX8_read_4 rfl ?_ | refine r_aload_nq dX8_read_4 rfl ?_ | refine r_aload_nN dX8_read_4 rfl ?_
  refine r_callV s_X8_288_v dX8_read_5 (by first | exact MAt.o (by assumption) | exact MAt.a1 (by assumption) | exact MAt.a2 (by assumption) | exact MAt.a3 (by assumption) | exact MAt.a4 (by assumption) | exact MAt.a5 (by assumption) | exact MAt.a6 (by assumption) | exact MAt.a7 (by assumption) | exact MAt.a8 (by assumption) | exact MAt.a9 (by assumption) | exact MAt.a10 (by assumption) | exact MAt.a11 (by assumption) | exact MAt.a12 (by assumption) | exact MAt.a13 (by assumption) | exact MAt.a14 (by assumption) | exact MAt.a15 (by assumption) | exact MAt.a16 (by assumption)) (by rfl) rfl (Nat.le_of_ble_eq_true rfl) (m_reads hM hb (fun i => (xT X).getD i 0) (xT X).length (by omega) p5 htx (fun e cl he he0 M F' A' v hM' kF kA k28 k29 => ?_) (fun cl he M F' A' hM' kF kA k28 k29 ht => ?_)) 
  skip
  · refine mK_r ?_
    rw [erd _ he] at hq k1
    have hP' : MP F' A' (xTxt X [] e) := hP.txt (by have : e ≤ (xT X).length + 1 := k1; omega) kF kA k28 k29
    rw [if_pos (by show e ≠ 0; omega)] at hq
    have he61 : e ≤ 61 := by have : e ≤ (xT X).length + 1 := k1; omega
    refine r_istore_n dX8_read_8 (by decide) ?_
    simp only [mst1, mclr]
    first | refine r_aload_n dX8_read_9 rfl ?_ | refine r_aload_nq dX8_read_9 rfl ?_ | refine r_aload_nN dX8_read_9 rfl ?_
    refine r_getf f_X8_57_7 (by first | exact MAt.o (by assumption) | exact MAt.a1 (by assumption) | exact MAt.a2 (by assumption) | exact MAt.a3 (by assumption) | exact MAt.a4 (by assumption) | exact MAt.a5 (by assumption) | exact MAt.a6 (by assumption) | exact MAt.a7 (by assumption) | exact MAt.a8 (by assumption) | exact MAt.a9 (by assumption) | exact MAt.a10 (by assumption) | exact MAt.a11 (by assumption) | exact MAt.a12 (by assumption) | exact MAt.a13 (by assumption) | exact MAt.a14 (by assumption) | exact MAt.a15 (by assumption) | exact MAt.a16 (by assumption)) (by rfl) dX8_read_10 ?_
    first | refine r_if_lt_p (tgt := 26) dX8_read_13 (by decide) (by omega) (fun h13 => by exfalso; omega) (fun h13 => ?_) | refine r_if_lt_n (tgt := 26) dX8_read_13 (by decide) (by omega) ?_ | refine r_if_lt (tgt := 26) dX8_read_13 (by decide) (fun h13 => by exfalso; omega) (fun h13 => ?_)
    first | refine r_aload_n dX8_read_16 rfl ?_ | refine r_aload_nq dX8_read_16 rfl ?_ | refine r_aload_nN dX8_read_16 rfl ?_
    first | refine r_aload_n dX8_read_17 rfl ?_ | refine r_aload_nq dX8_read_17 rfl ?_ | refine r_aload_nN dX8_read_17 rfl ?_
    refine r_iconst (v := nI 1) dX8_read_18 (by decide) ?_
    refine r_callV s_X8_89_v dX8_read_19 (by first | exact MAt.o (by assumption) | exact MAt.a1 (by assumption) | exact MAt.a2 (by assumption) | exact MAt.a3 (by assumption) | exact MAt.a4 (by assumption) | exact MAt.a5 (by assumption) | exact MAt.a6 (by assumption) | exact MAt.a7 (by assumption) | exact MAt.a8 (by assumption) | exact MAt.a9 (by assumption) | exact MAt.a10 (by assumption) | exact MAt.a11 (by assumption) | exact MAt.a12 (by assumption) | exact MAt.a13 (by assumption) | exact MAt.a14 (by assumption) | exact MAt.a15 (by assumption) | exact MAt.a16 (by assumption)) (by rfl) rfl (Nat.le_of_ble_eq_true rfl) (m_fails hM' hb 1 (fun M hM => ?_))
    refine mK_r ?_
    refine r_callV s_X8_93_v dX8_read_22 (by first | exact MAt.o (by assumption) | exact MAt.a1 (by assumption) | exact MAt.a2 (by assumption) | exact MAt.a3 (by assumption) | exact MAt.a4 (by assumption) | exact MAt.a5 (by assumption) | exact MAt.a6 (by assumption) | exact MAt.a7 (by assumption) | exact MAt.a8 (by assumption) | exact MAt.a9 (by assumption) | exact MAt.a10 (by assumption) | exact MAt.a11 (by assumption) | exact MAt.a12 (by assumption) | exact MAt.a13 (by assumption) | exact MAt.a14 (by assumption) | exact MAt.a15 (by assumption) | exact MAt.a16 (by assumption)) (by rfl) rfl (Nat.le_of_ble_eq_true rfl) (m_endsF (X := xTxt X [] e) hM (hP'.f6 1) (by rw [kA 2 (by decide)]; exact hR2) hb _ 1 rfl (by decide) (by decide) (fun M hX => ?_))
    refine mK_r ?_
    refine r_iret rfl (by first | rfl | exact bI_nar _ | exact (pk_charN (by first | assumption | omega)).1) dX8_read_25 ?_
    exact hq _ hX
  · refine mK_r ?_
    rw [erd _ he] at hq k2 k3
    have hP' : MP F' A' (xTxt X [] 0) := hP.txt (Nat.zero_le _) kF kA k28 k29
    rw [if_neg (by show ¬ (0 ≠ 0); omega)] at hq
    have k2 : cl.length ≤ (xT X).length := k2
    have k3 : ∀ z ∈ cl, z.1 < 10 := k3
    have hR2' : mR (xW X) (A' 2) := by rw [kA 2 (by decide)]; exact hR2
    have a1 : A' 1 = A 1 := kA 1 (by decide)
    have f6 : F' 6 = 0 := by rw [kF 6 (by decide) (by decide)]; exact h6
    refine r_istore_n dX8_read_8 (by decide) ?_
    simp only [mst1, mclr]
    first | refine r_aload_n dX8_read_9 rfl ?_ | refine r_aload_nq dX8_read_9 rfl ?_ | refine r_aload_nN dX8_read_9 rfl ?_
    refine r_getf f_X8_57_7 (by first | exact MAt.o (by assumption) | exact MAt.a1 (by assumption) | exact MAt.a2 (by assumption) | exact MAt.a3 (by assumption) | exact MAt.a4 (by assumption) | exact MAt.a5 (by assumption) | exact MAt.a6 (by assumption) | exact MAt.a7 (by assumption) | exact MAt.a8 (by assumption) | exact MAt.a9 (by assumption) | exact MAt.a10 (by assumption) | exact MAt.a11 (by assumption) | exact MAt.a12 (by assumption) | exact MAt.a13 (by assumption) | exact MAt.a14 (by assumption) | exact MAt.a15 (by assumption) | exact MAt.a16 (by assumption)) (by rfl) dX8_read_10 ?_
    first | refine r_if_lt_p (tgt := 26) dX8_read_13 (by decide) (by omega) (fun h13 => ?_) (fun h13 => by exfalso; omega) | refine r_if_lt_n (tgt := 26) dX8_read_13 (by decide) (by omega) ?_ | refine r_if_lt (tgt := 26) dX8_read_13 (by decide) (fun h13 => ?_) (fun h13 => by exfalso; omega)
    refine r_iload_n dX8_read_26 rfl ?_
    refine r_bipush (v := nI 24) dX8_read_27 (by decide) ?_
    first | refine r_icmp_le_n (tgt := 44) dX8_read_29 (by decide) (by omega) (by omega) (fun h29 => ?_) (fun h29 => ?_) | refine r_icmp_le (tgt := 44) dX8_read_29 (by decide) (fun h29 => ?_) (fun h29 => ?_)
    rotate_left
    · rw [if_pos (by show 24 < cl.length; omega)] at hq
      first | refine r_aload_n dX8_read_32 rfl ?_ | refine r_aload_nq dX8_read_32 rfl ?_ | refine r_aload_nN dX8_read_32 rfl ?_
      first | refine r_aload_n dX8_read_33 rfl ?_ | refine r_aload_nq dX8_read_33 rfl ?_ | refine r_aload_nN dX8_read_33 rfl ?_
      refine r_iconst (v := nI 2) dX8_read_34 (by decide) ?_
      refine r_iconst (v := nI 2) dX8_read_35 (by decide) ?_
      refine r_iload_n dX8_read_36 rfl ?_
      refine r_callV s_X8_96_v dX8_read_37 (by first | exact MAt.o (by assumption) | exact MAt.a1 (by assumption) | exact MAt.a2 (by assumption) | exact MAt.a3 (by assumption) | exact MAt.a4 (by assumption) | exact MAt.a5 (by assumption) | exact MAt.a6 (by assumption) | exact MAt.a7 (by assumption) | exact MAt.a8 (by assumption) | exact MAt.a9 (by assumption) | exact MAt.a10 (by assumption) | exact MAt.a11 (by assumption) | exact MAt.a12 (by assumption) | exact MAt.a13 (by assumption) | exact MAt.a14 (by assumption) | exact MAt.a15 (by assumption) | exact MAt.a16 (by assumption)) (by rfl) rfl (Nat.le_of_ble_eq_true rfl) (m_refuse hM' hb 2 2 _ (fun M hM => ?_))
      refine mK_r ?_
      refine r_callV s_X8_93_v dX8_read_40 (by first | exact MAt.o (by assumption) | exact MAt.a1 (by assumption) | exact MAt.a2 (by assumption) | exact MAt.a3 (by assumption) | exact MAt.a4 (by assumption) | exact MAt.a5 (by assumption) | exact MAt.a6 (by assumption) | exact MAt.a7 (by assumption) | exact MAt.a8 (by assumption) | exact MAt.a9 (by assumption) | exact MAt.a10 (by assumption) | exact MAt.a11 (by assumption) | exact MAt.a12 (by assumption) | exact MAt.a13 (by assumption) | exact MAt.a14 (by assumption) | exact MAt.a15 (by assumption) | exact MAt.a16 (by assumption)) (by rfl) rfl (Nat.le_of_ble_eq_true rfl) (m_endsF (X := xRef (xTxt X [] 0) 2 _) hM (hP'.ref 2 (by decide) _) hR2' hb _ 2 rfl (by decide) (by decide) (fun M hX => ?_))
      refine mK_r ?_
      refine r_iret rfl (by first | rfl | exact bI_nar _ | exact (pk_charN (by first | assumption | omega)).1) dX8_read_43 ?_
      exact hq _ hX
    rw [if_neg (by show ¬ 24 < cl.length; omega)] at hq
    have loop : ∀ n k M A'', k + n = cl.length → MAt B M m F' (xD X) A'' → (∀ i, i ≠ 1 → A'' i = A' i) → (∀ j, j < 37 → A'' 1 j = A 1 j) → (∀ i, i < k → A'' 1 (37 + 3 * i) = lS cl i ∧ A'' 1 (38 + 3 * i) = lO cl i ∧ A'' 1 (39 + 3 * i) = lT cl i) →
        (∀ (j : Nat) (y : Nat × Nat × Nat), j < k → cl[j]? = some y → clBad (wm (xW X)) y.1 (nI y.2.1) (nI y.2.2) = none) → mW G zX8_read (d + 6) 46 [some (.ref m), some (.int (nI cl.length)), some (.int (nI k))] [] M t u Q := by
      intro n
      induction n with
      | zero =>
        intro k M A'' hk hM kA2 klo kcl kb
        have hk : k = cl.length := by omega
        subst hk
        have hfb : fBad (wm (xW X)) cl = none := by
          cases hx : fBad (wm (xW X)) cl with
          | none => rfl
          | some dt =>
            exfalso
            have : ∀ (l : List (Nat × Nat × Nat)), (∀ (j : Nat) (y : Nat × Nat × Nat), l[j]? = some y → clBad (wm (xW X)) y.1 (nI y.2.1) (nI y.2.2) = none) → fBad (wm (xW X)) l = none := by
              intro l
              induction l with
              | nil => intro _; rfl
              | cons y r ihl =>
                intro hl
                unfold fBad
                rw [hl 0 y rfl]
                exact ihl (fun j z hz => hl (j + 1) z hz)
            rw [this cl (fun j y hy => kb j y (List.getElem?_eq_some_iff.mp hy).1 hy)] at hx
            cases hx
        rw [hfb] at hq
        have hPa : MP F' A'' (xTxt X [] 0) := hP'.cg rfl rfl rfl rfl rfl rfl (kA2 3 (by decide)) (kA2 4 (by decide)) (kA2 14 (by decide)) (kA2 15 (by decide))
        refine r_iload_n dX8_read_46 rfl ?_
        refine r_iload_n dX8_read_47 rfl ?_
        first | refine r_icmp_ge_n (tgt := 132) dX8_read_48 (by decide) (by omega) (by omega) (fun h48 => ?_) (fun h48 => by exfalso; omega) | refine r_icmp_ge (tgt := 132) dX8_read_48 (by decide) (fun h48 => ?_) (fun h48 => by exfalso; omega)
        first | refine r_aload_n dX8_read_132 rfl ?_ | refine r_aload_nq dX8_read_132 rfl ?_ | refine r_aload_nN dX8_read_132 rfl ?_
        refine r_getf f_X8_9_7 (by first | exact MAt.o (by assumption) | exact MAt.a1 (by assumption) | exact MAt.a2 (by assumption) | exact MAt.a3 (by assumption) | exact MAt.a4 (by assumption) | exact MAt.a5 (by assumption) | exact MAt.a6 (by assumption) | exact MAt.a7 (by assumption) | exact MAt.a8 (by assumption) | exact MAt.a9 (by assumption) | exact MAt.a10 (by assumption) | exact MAt.a11 (by assumption) | exact MAt.a12 (by assumption) | exact MAt.a13 (by assumption) | exact MAt.a14 (by assumption) | exact MAt.a15 (by assumption) | exact MAt.a16 (by assumption)) (by rfl) dX8_read_133 ?_
        refine r_iconst (v := nI 1) dX8_read_136 (by decide) ?_
        refine r_iload_n dX8_read_137 rfl ?_
        refine r_iast_n (by first | exact MAt.o (by assumption) | exact MAt.a1 (by assumption) | exact MAt.a2 (by assumption) | exact MAt.a3 (by assumption) | exact MAt.a4 (by assumption) | exact MAt.a5 (by assumption) | exact MAt.a6 (by assumption) | exact MAt.a7 (by assumption) | exact MAt.a8 (by assumption) | exact MAt.a9 (by assumption) | exact MAt.a10 (by assumption) | exact MAt.a11 (by assumption) | exact MAt.a12 (by assumption) | exact MAt.a13 (by assumption) | exact MAt.a14 (by assumption) | exact MAt.a15 (by assumption) | exact MAt.a16 (by assumption)) (by rfl) (by omega) (by omega) (by omega) dX8_read_138 ?_
        first | refine MAt.g1 (by assumption) (fun M hM => ?_) | refine MAt.g2 (by assumption) (fun M hM => ?_) | refine MAt.g3 (by assumption) (fun M hM => ?_) | refine MAt.g4 (by assumption) (fun M hM => ?_) | refine MAt.g5 (by assumption) (fun M hM => ?_) | refine MAt.g6 (by assumption) (fun M hM => ?_) | refine MAt.g7 (by assumption) (fun M hM => ?_) | refine MAt.g8 (by assumption) (fun M hM => ?_) | refine MAt.g9 (by assumption) (fun M hM => ?_) | refine MAt.g16 (by assumption) (fun M hM => ?_) | refine MAt.g10 _ (by assumption) ?_ (fun M hM => ?_) | refine MAt.g11 _ (by assumption) ?_ (fun M hM => ?_) | refine MAt.g12 _ (by assumption) ?_ (fun M hM => ?_)
        first | refine r_aload_n dX8_read_139 rfl ?_ | refine r_aload_nq dX8_read_139 rfl ?_ | refine r_aload_nN dX8_read_139 rfl ?_
        refine r_iload_n dX8_read_140 rfl ?_
        refine r_callV s_X8_93_v dX8_read_141 (by first | exact MAt.o (by assumption) | exact MAt.a1 (by assumption) | exact MAt.a2 (by assumption) | exact MAt.a3 (by assumption) | exact MAt.a4 (by assumption) | exact MAt.a5 (by assumption) | exact MAt.a6 (by assumption) | exact MAt.a7 (by assumption) | exact MAt.a8 (by assumption) | exact MAt.a9 (by assumption) | exact MAt.a10 (by assumption) | exact MAt.a11 (by assumption) | exact MAt.a12 (by assumption) | exact MAt.a13 (by assumption) | exact MAt.a14 (by assumption) | exact MAt.a15 (by assumption) | exact MAt.a16 (by assumption)) (by rfl) rfl (Nat.le_of_ble_eq_true rfl) (m_endsD (X := xTxt X [] 0) (W' := wCl (xW X) cl.length (lS cl) (lO cl) (lT cl)) hM (hPa.a1 _) (by show mR (xW X) (A'' 2); rw [kA2 2 (by decide)]; exact hR2') ?_ ?_ hb _ f6 (fun M hX => ?_)) 
        rotate_left 2; refine mK_r ?_
        refine r_iret rfl (by first | rfl | exact bI_nar _ | exact (pk_charN (by first | assumption | omega)).1) dX8_read_144 ?_
        · exact hq _ hX
        · refine ⟨?_, ?_, ?_, fun c' hc => ⟨?_, ?_, fun p hp => ?_⟩, fun g hg => ⟨?_, ?_⟩, fun k hk => ⟨?_, ?_, ?_⟩⟩
          · have := klo 0 (by decide); ((try simp only [wm_wGoods, wk_wGoods, ww_wGoods, wcm_wGoods, wch_wGoods, whu_wGoods, wn_wGoods, wso_wGoods, won_wGoods, wot_wGoods, wcg_wGoods, wm_wChest, wk_wChest, ww_wChest, wcm_wChest, wch_wChest, whu_wChest, wn_wChest, wso_wChest, won_wChest, wot_wChest, wcg_wChest, wm_wRate, wk_wRate, ww_wRate, wcm_wRate, wch_wRate, whu_wRate, wn_wRate, wso_wRate, won_wRate, wot_wRate, wcg_wRate, wm_wCl, wk_wCl, ww_wCl, wcm_wCl, wch_wCl, whu_wCl, wn_wCl, wso_wCl, won_wCl, wot_wCl, wcg_wCl, wm_wChg, wk_wChg, ww_wChg, wcm_wChg, wch_wChg, whu_wChg, wn_wChg, wso_wChg, won_wChg, wot_wChg, wcg_wChg, fA_eq, fU, f2, insF, delF]); (repeat' split) <;> (try first | omega | exact absurd trivial (by assumption)))
          · ((try simp only [wm_wGoods, wk_wGoods, ww_wGoods, wcm_wGoods, wch_wGoods, whu_wGoods, wn_wGoods, wso_wGoods, won_wGoods, wot_wGoods, wcg_wGoods, wm_wChest, wk_wChest, ww_wChest, wcm_wChest, wch_wChest, whu_wChest, wn_wChest, wso_wChest, won_wChest, wot_wChest, wcg_wChest, wm_wRate, wk_wRate, ww_wRate, wcm_wRate, wch_wRate, whu_wRate, wn_wRate, wso_wRate, won_wRate, wot_wRate, wcg_wRate, wm_wCl, wk_wCl, ww_wCl, wcm_wCl, wch_wCl, whu_wCl, wn_wCl, wso_wCl, won_wCl, wot_wCl, wcg_wCl, wm_wChg, wk_wChg, ww_wChg, wcm_wChg, wch_wChg, whu_wChg, wn_wChg, wso_wChg, won_wChg, wot_wChg, wcg_wChg, fA_eq, fU, f2, insF, delF]); (repeat' split) <;> (try first | omega | exact absurd trivial (by assumption)))
          · have := klo 2 (by decide); ((try simp only [wm_wGoods, wk_wGoods, ww_wGoods, wcm_wGoods, wch_wGoods, whu_wGoods, wn_wGoods, wso_wGoods, won_wGoods, wot_wGoods, wcg_wGoods, wm_wChest, wk_wChest, ww_wChest, wcm_wChest, wch_wChest, whu_wChest, wn_wChest, wso_wChest, won_wChest, wot_wChest, wcg_wChest, wm_wRate, wk_wRate, ww_wRate, wcm_wRate, wch_wRate, whu_wRate, wn_wRate, wso_wRate, won_wRate, wot_wRate, wcg_wRate, wm_wCl, wk_wCl, ww_wCl, wcm_wCl, wch_wCl, whu_wCl, wn_wCl, wso_wCl, won_wCl, wot_wCl, wcg_wCl, wm_wChg, wk_wChg, ww_wChg, wcm_wChg, wch_wChg, whu_wChg, wn_wChg, wso_wChg, won_wChg, wot_wChg, wcg_wChg, fA_eq, fU, f2, insF, delF]); (repeat' split) <;> (try first | omega | exact absurd trivial (by assumption)))
          · have := e3 c' hc; have := klo (3 + c') (by omega); ((try simp only [wm_wGoods, wk_wGoods, ww_wGoods, wcm_wGoods, wch_wGoods, whu_wGoods, wn_wGoods, wso_wGoods, won_wGoods, wot_wGoods, wcg_wGoods, wm_wChest, wk_wChest, ww_wChest, wcm_wChest, wch_wChest, whu_wChest, wn_wChest, wso_wChest, won_wChest, wot_wChest, wcg_wChest, wm_wRate, wk_wRate, ww_wRate, wcm_wRate, wch_wRate, whu_wRate, wn_wRate, wso_wRate, won_wRate, wot_wRate, wcg_wRate, wm_wCl, wk_wCl, ww_wCl, wcm_wCl, wch_wCl, whu_wCl, wn_wCl, wso_wCl, won_wCl, wot_wCl, wcg_wCl, wm_wChg, wk_wChg, ww_wChg, wcm_wChg, wch_wChg, whu_wChg, wn_wChg, wso_wChg, won_wChg, wot_wChg, wcg_wChg, fA_eq, fU, f2, insF, delF]); (repeat' split) <;> (try first | omega | exact absurd trivial (by assumption)))
          · have := e3 c' hc; have := klo (6 + c') (by omega); ((try simp only [wm_wGoods, wk_wGoods, ww_wGoods, wcm_wGoods, wch_wGoods, whu_wGoods, wn_wGoods, wso_wGoods, won_wGoods, wot_wGoods, wcg_wGoods, wm_wChest, wk_wChest, ww_wChest, wcm_wChest, wch_wChest, whu_wChest, wn_wChest, wso_wChest, won_wChest, wot_wChest, wcg_wChest, wm_wRate, wk_wRate, ww_wRate, wcm_wRate, wch_wRate, whu_wRate, wn_wRate, wso_wRate, won_wRate, wot_wRate, wcg_wRate, wm_wCl, wk_wCl, ww_wCl, wcm_wCl, wch_wCl, whu_wCl, wn_wCl, wso_wCl, won_wCl, wot_wCl, wcg_wCl, wm_wChg, wk_wChg, ww_wChg, wcm_wChg, wch_wChg, whu_wChg, wn_wChg, wso_wChg, won_wChg, wot_wChg, wcg_wChg, fA_eq, fU, f2, insF, delF]); (repeat' split) <;> (try first | omega | exact absurd trivial (by assumption)))
          · have h1 := (e3 c' hc).2.2.2.2 p hp; have h2 := e3 c' hc; have hp : p < wcm (xW X) c' := hp; have := klo (9 + 4 * c' + p) (by omega); ((try simp only [wm_wGoods, wk_wGoods, ww_wGoods, wcm_wGoods, wch_wGoods, whu_wGoods, wn_wGoods, wso_wGoods, won_wGoods, wot_wGoods, wcg_wGoods, wm_wChest, wk_wChest, ww_wChest, wcm_wChest, wch_wChest, whu_wChest, wn_wChest, wso_wChest, won_wChest, wot_wChest, wcg_wChest, wm_wRate, wk_wRate, ww_wRate, wcm_wRate, wch_wRate, whu_wRate, wn_wRate, wso_wRate, won_wRate, wot_wRate, wcg_wRate, wm_wCl, wk_wCl, ww_wCl, wcm_wCl, wch_wCl, whu_wCl, wn_wCl, wso_wCl, won_wCl, wot_wCl, wcg_wCl, wm_wChg, wk_wChg, ww_wChg, wcm_wChg, wch_wChg, whu_wChg, wn_wChg, wso_wChg, won_wChg, wot_wChg, wcg_wChg, fA_eq, fU, f2, insF, delF]); (repeat' split) <;> (try first | omega | exact absurd trivial (by assumption)))
          · have hg : g < wm (xW X) := hg; have := e4 g hg; have := klo (21 + g) (by omega); ((try simp only [wm_wGoods, wk_wGoods, ww_wGoods, wcm_wGoods, wch_wGoods, whu_wGoods, wn_wGoods, wso_wGoods, won_wGoods, wot_wGoods, wcg_wGoods, wm_wChest, wk_wChest, ww_wChest, wcm_wChest, wch_wChest, whu_wChest, wn_wChest, wso_wChest, won_wChest, wot_wChest, wcg_wChest, wm_wRate, wk_wRate, ww_wRate, wcm_wRate, wch_wRate, whu_wRate, wn_wRate, wso_wRate, won_wRate, wot_wRate, wcg_wRate, wm_wCl, wk_wCl, ww_wCl, wcm_wCl, wch_wCl, whu_wCl, wn_wCl, wso_wCl, won_wCl, wot_wCl, wcg_wCl, wm_wChg, wk_wChg, ww_wChg, wcm_wChg, wch_wChg, whu_wChg, wn_wChg, wso_wChg, won_wChg, wot_wChg, wcg_wChg, fA_eq, fU, f2, insF, delF]); (repeat' split) <;> (try first | omega | exact absurd trivial (by assumption)))
          · have hg : g < wm (xW X) := hg; have := e4 g hg; have := klo (29 + g) (by omega); ((try simp only [wm_wGoods, wk_wGoods, ww_wGoods, wcm_wGoods, wch_wGoods, whu_wGoods, wn_wGoods, wso_wGoods, won_wGoods, wot_wGoods, wcg_wGoods, wm_wChest, wk_wChest, ww_wChest, wcm_wChest, wch_wChest, whu_wChest, wn_wChest, wso_wChest, won_wChest, wot_wChest, wcg_wChest, wm_wRate, wk_wRate, ww_wRate, wcm_wRate, wch_wRate, whu_wRate, wn_wRate, wso_wRate, won_wRate, wot_wRate, wcg_wRate, wm_wCl, wk_wCl, ww_wCl, wcm_wCl, wch_wCl, whu_wCl, wn_wCl, wso_wCl, won_wCl, wot_wCl, wcg_wCl, wm_wChg, wk_wChg, ww_wChg, wcm_wChg, wch_wChg, whu_wChg, wn_wChg, wso_wChg, won_wChg, wot_wChg, wcg_wChg, fA_eq, fU, f2, insF, delF]); (repeat' split) <;> (try first | omega | exact absurd trivial (by assumption)))
          · have hk : k < cl.length := hk; have := kcl k hk; ((try simp only [wm_wGoods, wk_wGoods, ww_wGoods, wcm_wGoods, wch_wGoods, whu_wGoods, wn_wGoods, wso_wGoods, won_wGoods, wot_wGoods, wcg_wGoods, wm_wChest, wk_wChest, ww_wChest, wcm_wChest, wch_wChest, whu_wChest, wn_wChest, wso_wChest, won_wChest, wot_wChest, wcg_wChest, wm_wRate, wk_wRate, ww_wRate, wcm_wRate, wch_wRate, whu_wRate, wn_wRate, wso_wRate, won_wRate, wot_wRate, wcg_wRate, wm_wCl, wk_wCl, ww_wCl, wcm_wCl, wch_wCl, whu_wCl, wn_wCl, wso_wCl, won_wCl, wot_wCl, wcg_wCl, wm_wChg, wk_wChg, ww_wChg, wcm_wChg, wch_wChg, whu_wChg, wn_wChg, wso_wChg, won_wChg, wot_wChg, wcg_wChg, fA_eq, fU, f2, insF, delF]); (repeat' split) <;> (try first | omega | exact absurd trivial (by assumption)))
          · have hk : k < cl.length := hk; have := kcl k hk; ((try simp only [wm_wGoods, wk_wGoods, ww_wGoods, wcm_wGoods, wch_wGoods, whu_wGoods, wn_wGoods, wso_wGoods, won_wGoods, wot_wGoods, wcg_wGoods, wm_wChest, wk_wChest, ww_wChest, wcm_wChest, wch_wChest, whu_wChest, wn_wChest, wso_wChest, won_wChest, wot_wChest, wcg_wChest, wm_wRate, wk_wRate, ww_wRate, wcm_wRate, wch_wRate, whu_wRate, wn_wRate, wso_wRate, won_wRate, wot_wRate, wcg_wRate, wm_wCl, wk_wCl, ww_wCl, wcm_wCl, wch_wCl, whu_wCl, wn_wCl, wso_wCl, won_wCl, wot_wCl, wcg_wCl, wm_wChg, wk_wChg, ww_wChg, wcm_wChg, wch_wChg, whu_wChg, wn_wChg, wso_wChg, won_wChg, wot_wChg, wcg_wChg, fA_eq, fU, f2, insF, delF]); (repeat' split) <;> (try first | omega | exact absurd trivial (by assumption)))
          · have hk : k < cl.length := hk; have := kcl k hk; ((try simp only [wm_wGoods, wk_wGoods, ww_wGoods, wcm_wGoods, wch_wGoods, whu_wGoods, wn_wGoods, wso_wGoods, won_wGoods, wot_wGoods, wcg_wGoods, wm_wChest, wk_wChest, ww_wChest, wcm_wChest, wch_wChest, whu_wChest, wn_wChest, wso_wChest, won_wChest, wot_wChest, wcg_wChest, wm_wRate, wk_wRate, ww_wRate, wcm_wRate, wch_wRate, whu_wRate, wn_wRate, wso_wRate, won_wRate, wot_wRate, wcg_wRate, wm_wCl, wk_wCl, ww_wCl, wcm_wCl, wch_wCl, whu_wCl, wn_wCl, wso_wCl, won_wCl, wot_wCl, wcg_wCl, wm_wChg, wk_wChg, ww_wChg, wcm_wChg, wch_wChg, whu_wChg, wn_wChg, wso_wChg, won_wChg, wot_wChg, wcg_wChg, fA_eq, fU, f2, insF, delF]); (repeat' split) <;> (try first | omega | exact absurd trivial (by assumption)))
        · obtain ⟨q1, q2, q3, q4, q5, q6⟩ := hP.1.1
          refine ⟨q1, ?_, ?_, q4, q5, fun k hk => ?_⟩
          · ((try simp only [wm_wGoods, wk_wGoods, ww_wGoods, wcm_wGoods, wch_wGoods, whu_wGoods, wn_wGoods, wso_wGoods, won_wGoods, wot_wGoods, wcg_wGoods, wm_wChest, wk_wChest, ww_wChest, wcm_wChest, wch_wChest, whu_wChest, wn_wChest, wso_wChest, won_wChest, wot_wChest, wcg_wChest, wm_wRate, wk_wRate, ww_wRate, wcm_wRate, wch_wRate, whu_wRate, wn_wRate, wso_wRate, won_wRate, wot_wRate, wcg_wRate, wm_wCl, wk_wCl, ww_wCl, wcm_wCl, wch_wCl, whu_wCl, wn_wCl, wso_wCl, won_wCl, wot_wCl, wcg_wCl, wm_wChg, wk_wChg, ww_wChg, wcm_wChg, wch_wChg, whu_wChg, wn_wChg, wso_wChg, won_wChg, wot_wChg, wcg_wChg, fA_eq, fU, f2, insF, delF]); (repeat' split) <;> (try first | omega | exact absurd trivial (by assumption)))
          · ((try simp only [wm_wGoods, wk_wGoods, ww_wGoods, wcm_wGoods, wch_wGoods, whu_wGoods, wn_wGoods, wso_wGoods, won_wGoods, wot_wGoods, wcg_wGoods, wm_wChest, wk_wChest, ww_wChest, wcm_wChest, wch_wChest, whu_wChest, wn_wChest, wso_wChest, won_wChest, wot_wChest, wcg_wChest, wm_wRate, wk_wRate, ww_wRate, wcm_wRate, wch_wRate, whu_wRate, wn_wRate, wso_wRate, won_wRate, wot_wRate, wcg_wRate, wm_wCl, wk_wCl, ww_wCl, wcm_wCl, wch_wCl, whu_wCl, wn_wCl, wso_wCl, won_wCl, wot_wCl, wcg_wCl, wm_wChg, wk_wChg, ww_wChg, wcm_wChg, wch_wChg, whu_wChg, wn_wChg, wso_wChg, won_wChg, wot_wChg, wcg_wChg, fA_eq, fU, f2, insF, delF]); (repeat' split) <;> (try first | omega | exact absurd trivial (by assumption)))
          · have hk : k < cl.length := hk
            have hz : cl[k]? = some (cl.getD k (0, 0, 0)) := by rw [List.getD_eq_getElem?_getD, List.getElem?_eq_getElem hk]; rfl
            have hb1 := kb k _ hk hz
            have hs10 := k3 _ (List.mem_of_getElem? hz)
            exact (clBad_none hs10 (by omega) hb1).2.2
      | succ n ih =>
        intro k M A'' hk hM kA2 klo kcl kb
        have hkl : k < cl.length := by omega
        have hz : cl[k]? = some (cl.getD k (0, 0, 0)) := by rw [List.getD_eq_getElem?_getD, List.getElem?_eq_getElem hkl]; rfl
        have hs10 := k3 _ (List.mem_of_getElem? hz)
        obtain ⟨t1, t2, t3⟩ := ht k _ hz
        have t1 : A'' 16 (3 * k) = (cl.getD k (0, 0, 0)).1 + 1 := by rw [kA2 16 (by decide)]; exact t1
        have t2' : 2 ≤ (cl.getD k (0, 0, 0)).1 ∧ (cl.getD k (0, 0, 0)).1 ≤ 6 → pI (A'' 16 (3 * k + 1)) = nI (cl.getD k (0, 0, 0)).2.1 := fun hh => by rw [kA2 16 (by decide), t2 hh]; rfl
        have t3' : (cl.getD k (0, 0, 0)).1 = 4 ∨ (cl.getD k (0, 0, 0)).1 = 5 → pI (A'' 16 (3 * k + 2)) = nI (cl.getD k (0, 0, 0)).2.2 := fun hh => by rw [kA2 16 (by decide), t3 hh]; rfl
        have eB : clBad (A'' 1 0) (cl.getD k (0, 0, 0)).1 (pI (A'' 16 (3 * k + 1))) (pI (A'' 16 (3 * k + 2))) = clBad (wm (xW X)) (cl.getD k (0, 0, 0)).1 (nI (cl.getD k (0, 0, 0)).2.1) (nI (cl.getD k (0, 0, 0)).2.2) := by
          rw [klo 0 (by decide), e0]; exact clBad_congr t2' t3'
        have eW : clBad (wm (xW X)) (cl.getD k (0, 0, 0)).1 (pI (A'' 16 (3 * k + 1))) (pI (A'' 16 (3 * k + 2))) = clBad (wm (xW X)) (cl.getD k (0, 0, 0)).1 (nI (cl.getD k (0, 0, 0)).2.1) (nI (cl.getD k (0, 0, 0)).2.2) := clBad_congr t2' t3'
        refine r_iload_n dX8_read_46 rfl ?_
        refine r_iload_n dX8_read_47 rfl ?_
        first | refine r_icmp_ge_n (tgt := 132) dX8_read_48 (by decide) (by omega) (by omega) (fun h48 => by exfalso; omega) (fun h48 => ?_) | refine r_icmp_ge (tgt := 132) dX8_read_48 (by decide) (fun h48 => by exfalso; omega) (fun h48 => ?_)
        first | refine r_aload_n dX8_read_51 rfl ?_ | refine r_aload_nq dX8_read_51 rfl ?_ | refine r_aload_nN dX8_read_51 rfl ?_
        refine r_iconst (v := nI 2) dX8_read_52 (by decide) ?_
        first | refine r_aload_n dX8_read_53 rfl ?_ | refine r_aload_nq dX8_read_53 rfl ?_ | refine r_aload_nN dX8_read_53 rfl ?_
        refine r_getf f_X8_61_7 (by first | exact MAt.o (by assumption) | exact MAt.a1 (by assumption) | exact MAt.a2 (by assumption) | exact MAt.a3 (by assumption) | exact MAt.a4 (by assumption) | exact MAt.a5 (by assumption) | exact MAt.a6 (by assumption) | exact MAt.a7 (by assumption) | exact MAt.a8 (by assumption) | exact MAt.a9 (by assumption) | exact MAt.a10 (by assumption) | exact MAt.a11 (by assumption) | exact MAt.a12 (by assumption) | exact MAt.a13 (by assumption) | exact MAt.a14 (by assumption) | exact MAt.a15 (by assumption) | exact MAt.a16 (by assumption)) (by rfl) dX8_read_54 ?_
        refine r_iconst (v := nI 3) dX8_read_57 (by decide) ?_
        refine r_iload_n dX8_read_58 rfl ?_
        first | refine r_imul_n dX8_read_59 ?_ | refine r_imul dX8_read_59 ?_
        refine r_iald_n (by first | exact MAt.o (by assumption) | exact MAt.a1 (by assumption) | exact MAt.a2 (by assumption) | exact MAt.a3 (by assumption) | exact MAt.a4 (by assumption) | exact MAt.a5 (by assumption) | exact MAt.a6 (by assumption) | exact MAt.a7 (by assumption) | exact MAt.a8 (by assumption) | exact MAt.a9 (by assumption) | exact MAt.a10 (by assumption) | exact MAt.a11 (by assumption) | exact MAt.a12 (by assumption) | exact MAt.a13 (by assumption) | exact MAt.a14 (by assumption) | exact MAt.a15 (by assumption) | exact MAt.a16 (by assumption)) (by rfl) (by omega) (by omega) dX8_read_60 ?_
        rw [t1]
        first | refine r_aload_n dX8_read_61 rfl ?_ | refine r_aload_nq dX8_read_61 rfl ?_ | refine r_aload_nN dX8_read_61 rfl ?_
        refine r_getf f_X8_61_7 (by first | exact MAt.o (by assumption) | exact MAt.a1 (by assumption) | exact MAt.a2 (by assumption) | exact MAt.a3 (by assumption) | exact MAt.a4 (by assumption) | exact MAt.a5 (by assumption) | exact MAt.a6 (by assumption) | exact MAt.a7 (by assumption) | exact MAt.a8 (by assumption) | exact MAt.a9 (by assumption) | exact MAt.a10 (by assumption) | exact MAt.a11 (by assumption) | exact MAt.a12 (by assumption) | exact MAt.a13 (by assumption) | exact MAt.a14 (by assumption) | exact MAt.a15 (by assumption) | exact MAt.a16 (by assumption)) (by rfl) dX8_read_62 ?_
        refine r_iconst (v := nI 3) dX8_read_65 (by decide) ?_
        refine r_iload_n dX8_read_66 rfl ?_
        first | refine r_imul_n dX8_read_67 ?_ | refine r_imul dX8_read_67 ?_
        refine r_iconst (v := nI 1) dX8_read_68 (by decide) ?_
        first | refine r_iadd_n dX8_read_69 ?_ | refine r_iadd dX8_read_69 ?_
        refine r_iald_n (by first | exact MAt.o (by assumption) | exact MAt.a1 (by assumption) | exact MAt.a2 (by assumption) | exact MAt.a3 (by assumption) | exact MAt.a4 (by assumption) | exact MAt.a5 (by assumption) | exact MAt.a6 (by assumption) | exact MAt.a7 (by assumption) | exact MAt.a8 (by assumption) | exact MAt.a9 (by assumption) | exact MAt.a10 (by assumption) | exact MAt.a11 (by assumption) | exact MAt.a12 (by assumption) | exact MAt.a13 (by assumption) | exact MAt.a14 (by assumption) | exact MAt.a15 (by assumption) | exact MAt.a16 (by assumption)) (by rfl) (by omega) (by omega) dX8_read_70 ?_
        first | refine r_aload_n dX8_read_71 rfl ?_ | refine r_aload_nq dX8_read_71 rfl ?_ | refine r_aload_nN dX8_read_71 rfl ?_
        refine r_getf f_X8_61_7 (by first | exact MAt.o (by assumption) | exact MAt.a1 (by assumption) | exact MAt.a2 (by assumption) | exact MAt.a3 (by assumption) | exact MAt.a4 (by assumption) | exact MAt.a5 (by assumption) | exact MAt.a6 (by assumption) | exact MAt.a7 (by assumption) | exact MAt.a8 (by assumption) | exact MAt.a9 (by assumption) | exact MAt.a10 (by assumption) | exact MAt.a11 (by assumption) | exact MAt.a12 (by assumption) | exact MAt.a13 (by assumption) | exact MAt.a14 (by assumption) | exact MAt.a15 (by assumption) | exact MAt.a16 (by assumption)) (by rfl) dX8_read_72 ?_
        refine r_iconst (v := nI 3) dX8_read_75 (by decide) ?_
        refine r_iload_n dX8_read_76 rfl ?_
        first | refine r_imul_n dX8_read_77 ?_ | refine r_imul dX8_read_77 ?_
        refine r_iconst (v := nI 2) dX8_read_78 (by decide) ?_
        first | refine r_iadd_n dX8_read_79 ?_ | refine r_iadd dX8_read_79 ?_
        refine r_iald_n (by first | exact MAt.o (by assumption) | exact MAt.a1 (by assumption) | exact MAt.a2 (by assumption) | exact MAt.a3 (by assumption) | exact MAt.a4 (by assumption) | exact MAt.a5 (by assumption) | exact MAt.a6 (by assumption) | exact MAt.a7 (by assumption) | exact MAt.a8 (by assumption) | exact MAt.a9 (by assumption) | exact MAt.a10 (by assumption) | exact MAt.a11 (by assumption) | exact MAt.a12 (by assumption) | exact MAt.a13 (by assumption) | exact MAt.a14 (by assumption) | exact MAt.a15 (by assumption) | exact MAt.a16 (by assumption)) (by rfl) (by omega) (by omega) dX8_read_80 ?_
        refine r_callV s_X8_145_v dX8_read_81 (by first | exact MAt.o (by assumption) | exact MAt.a1 (by assumption) | exact MAt.a2 (by assumption) | exact MAt.a3 (by assumption) | exact MAt.a4 (by assumption) | exact MAt.a5 (by assumption) | exact MAt.a6 (by assumption) | exact MAt.a7 (by assumption) | exact MAt.a8 (by assumption) | exact MAt.a9 (by assumption) | exact MAt.a10 (by assumption) | exact MAt.a11 (by assumption) | exact MAt.a12 (by assumption) | exact MAt.a13 (by assumption) | exact MAt.a14 (by assumption) | exact MAt.a15 (by assumption) | exact MAt.a16 (by assumption)) (by rfl) rfl (Nat.le_of_ble_eq_true rfl) (m_isFit hM hb 2 (cl.getD k (0, 0, 0)).1 (by omega) (pI (A'' 16 (3 * k + 1))) (pI (A'' 16 (3 * k + 2))) (fun hx => ?_) (fun dt hx M hM => ?_)) 
        skip
        · rw [eB] at hx
          refine mK_r ?_
          obtain ⟨c1, c2, c3⟩ := clBad_none hs10 (show wm (xW X) < 2147483648 by omega) (eW.trans hx)
          refine r_if_ne_b (tgt := 93) dX8_read_84 (by decide) (fun h84 => ?_) (fun h84 => absurd h84 (by decide))
          first | refine r_aload_n dX8_read_93 rfl ?_ | refine r_aload_nq dX8_read_93 rfl ?_ | refine r_aload_nN dX8_read_93 rfl ?_
          refine r_iload_n dX8_read_94 rfl ?_
          first | refine r_aload_n dX8_read_95 rfl ?_ | refine r_aload_nq dX8_read_95 rfl ?_ | refine r_aload_nN dX8_read_95 rfl ?_
          refine r_getf f_X8_61_7 (by first | exact MAt.o (by assumption) | exact MAt.a1 (by assumption) | exact MAt.a2 (by assumption) | exact MAt.a3 (by assumption) | exact MAt.a4 (by assumption) | exact MAt.a5 (by assumption) | exact MAt.a6 (by assumption) | exact MAt.a7 (by assumption) | exact MAt.a8 (by assumption) | exact MAt.a9 (by assumption) | exact MAt.a10 (by assumption) | exact MAt.a11 (by assumption) | exact MAt.a12 (by assumption) | exact MAt.a13 (by assumption) | exact MAt.a14 (by assumption) | exact MAt.a15 (by assumption) | exact MAt.a16 (by assumption)) (by rfl) dX8_read_96 ?_
          refine r_iconst (v := nI 3) dX8_read_99 (by decide) ?_
          refine r_iload_n dX8_read_100 rfl ?_
          first | refine r_imul_n dX8_read_101 ?_ | refine r_imul dX8_read_101 ?_
          refine r_iald_n (by first | exact MAt.o (by assumption) | exact MAt.a1 (by assumption) | exact MAt.a2 (by assumption) | exact MAt.a3 (by assumption) | exact MAt.a4 (by assumption) | exact MAt.a5 (by assumption) | exact MAt.a6 (by assumption) | exact MAt.a7 (by assumption) | exact MAt.a8 (by assumption) | exact MAt.a9 (by assumption) | exact MAt.a10 (by assumption) | exact MAt.a11 (by assumption) | exact MAt.a12 (by assumption) | exact MAt.a13 (by assumption) | exact MAt.a14 (by assumption) | exact MAt.a15 (by assumption) | exact MAt.a16 (by assumption)) (by rfl) (by omega) (by omega) dX8_read_102 ?_
          rw [t1]
          first | refine r_aload_n dX8_read_103 rfl ?_ | refine r_aload_nq dX8_read_103 rfl ?_ | refine r_aload_nN dX8_read_103 rfl ?_
          refine r_getf f_X8_61_7 (by first | exact MAt.o (by assumption) | exact MAt.a1 (by assumption) | exact MAt.a2 (by assumption) | exact MAt.a3 (by assumption) | exact MAt.a4 (by assumption) | exact MAt.a5 (by assumption) | exact MAt.a6 (by assumption) | exact MAt.a7 (by assumption) | exact MAt.a8 (by assumption) | exact MAt.a9 (by assumption) | exact MAt.a10 (by assumption) | exact MAt.a11 (by assumption) | exact MAt.a12 (by assumption) | exact MAt.a13 (by assumption) | exact MAt.a14 (by assumption) | exact MAt.a15 (by assumption) | exact MAt.a16 (by assumption)) (by rfl) dX8_read_104 ?_
          refine r_iconst (v := nI 3) dX8_read_107 (by decide) ?_
          refine r_iload_n dX8_read_108 rfl ?_
          first | refine r_imul_n dX8_read_109 ?_ | refine r_imul dX8_read_109 ?_
          refine r_iconst (v := nI 1) dX8_read_110 (by decide) ?_
          first | refine r_iadd_n dX8_read_111 ?_ | refine r_iadd dX8_read_111 ?_
          refine r_iald_n (by first | exact MAt.o (by assumption) | exact MAt.a1 (by assumption) | exact MAt.a2 (by assumption) | exact MAt.a3 (by assumption) | exact MAt.a4 (by assumption) | exact MAt.a5 (by assumption) | exact MAt.a6 (by assumption) | exact MAt.a7 (by assumption) | exact MAt.a8 (by assumption) | exact MAt.a9 (by assumption) | exact MAt.a10 (by assumption) | exact MAt.a11 (by assumption) | exact MAt.a12 (by assumption) | exact MAt.a13 (by assumption) | exact MAt.a14 (by assumption) | exact MAt.a15 (by assumption) | exact MAt.a16 (by assumption)) (by rfl) (by omega) (by omega) dX8_read_112 ?_
          first | refine r_aload_n dX8_read_113 rfl ?_ | refine r_aload_nq dX8_read_113 rfl ?_ | refine r_aload_nN dX8_read_113 rfl ?_
          refine r_getf f_X8_61_7 (by first | exact MAt.o (by assumption) | exact MAt.a1 (by assumption) | exact MAt.a2 (by assumption) | exact MAt.a3 (by assumption) | exact MAt.a4 (by assumption) | exact MAt.a5 (by assumption) | exact MAt.a6 (by assumption) | exact MAt.a7 (by assumption) | exact MAt.a8 (by assumption) | exact MAt.a9 (by assumption) | exact MAt.a10 (by assumption) | exact MAt.a11 (by assumption) | exact MAt.a12 (by assumption) | exact MAt.a13 (by assumption) | exact MAt.a14 (by assumption) | exact MAt.a15 (by assumption) | exact MAt.a16 (by assumption)) (by rfl) dX8_read_114 ?_
          refine r_iconst (v := nI 3) dX8_read_117 (by decide) ?_
          refine r_iload_n dX8_read_118 rfl ?_
          first | refine r_imul_n dX8_read_119 ?_ | refine r_imul dX8_read_119 ?_
          refine r_iconst (v := nI 2) dX8_read_120 (by decide) ?_
          first | refine r_iadd_n dX8_read_121 ?_ | refine r_iadd dX8_read_121 ?_
          refine r_iald_n (by first | exact MAt.o (by assumption) | exact MAt.a1 (by assumption) | exact MAt.a2 (by assumption) | exact MAt.a3 (by assumption) | exact MAt.a4 (by assumption) | exact MAt.a5 (by assumption) | exact MAt.a6 (by assumption) | exact MAt.a7 (by assumption) | exact MAt.a8 (by assumption) | exact MAt.a9 (by assumption) | exact MAt.a10 (by assumption) | exact MAt.a11 (by assumption) | exact MAt.a12 (by assumption) | exact MAt.a13 (by assumption) | exact MAt.a14 (by assumption) | exact MAt.a15 (by assumption) | exact MAt.a16 (by assumption)) (by rfl) (by omega) (by omega) dX8_read_122 ?_
          refine r_callV s_X8_149_v dX8_read_123 (by first | exact MAt.o (by assumption) | exact MAt.a1 (by assumption) | exact MAt.a2 (by assumption) | exact MAt.a3 (by assumption) | exact MAt.a4 (by assumption) | exact MAt.a5 (by assumption) | exact MAt.a6 (by assumption) | exact MAt.a7 (by assumption) | exact MAt.a8 (by assumption) | exact MAt.a9 (by assumption) | exact MAt.a10 (by assumption) | exact MAt.a11 (by assumption) | exact MAt.a12 (by assumption) | exact MAt.a13 (by assumption) | exact MAt.a14 (by assumption) | exact MAt.a15 (by assumption) | exact MAt.a16 (by assumption)) (by rfl) rfl (Nat.le_of_ble_eq_true rfl) (m_sets hM hb k (cl.getD k (0, 0, 0)).1 (by omega) (by omega) (pI (A'' 16 (3 * k + 1))) (pI (A'' 16 (3 * k + 2))) c1 c2 (fun M hM => ?_))
          refine mK_v ?_
          first | refine r_iinc_n 1 dX8_read_126 rfl (by decide) ?_ | refine r_iinc dX8_read_126 rfl rfl (by decide) ?_
          simp only [mst1, mclr]
          refine r_goto (tgt := 46) dX8_read_129 (by decide) ?_
          have eO : clOne (cl.getD k (0, 0, 0)).1 (pI (A'' 16 (3 * k + 1))) = lO cl k := by
            unfold lO clOne
            split
            · rename_i hh; rw [t2' hh]
            · rfl
          have eT : clTwo (cl.getD k (0, 0, 0)).1 (pI (A'' 16 (3 * k + 2))) = lT cl k := by
            unfold lT clTwo
            split
            · rename_i hh; rw [t3' hh]
            · rfl
          rw [eO, eT] at hM
          refine ih (k + 1) M _ (by omega) hM (fun i hi => by rw [fA_ne hi]; exact kA2 i hi) (fun j hj => ?_) (fun i hi => ?_) (fun j y hj hy => ?_)
          · rw [fA_eq, fU_ne (by omega), fU_ne (by omega), fU_ne (by omega)]; exact klo j hj
          · rw [fA_eq]
            rcases Nat.lt_or_ge i k with q | q
            · have := kcl i q
              rw [fU_ne (by omega), fU_ne (by omega), fU_ne (by omega), fU_ne (by omega), fU_ne (by omega), fU_ne (by omega), fU_ne (by omega), fU_ne (by omega), fU_ne (by omega)]
              exact this
            · obtain rfl : i = k := by omega
              refine ⟨?_, ?_, ?_⟩
              · rw [fU_ne (by omega), fU_ne (by omega), fU_eq]; rfl
              · rw [fU_ne (by omega), fU_eq]
              · rw [fU_eq]
          · rcases Nat.lt_or_ge j k with q | q
            · exact kb j y q hy
            · obtain rfl : j = k := by omega
              cases hz.symm.trans hy
              exact hx
        · rw [eB] at hx
          refine mK_r ?_
          rw [fBad_some kb hz hx] at hq
          have hPa : MP F' A'' (xTxt X [] 0) := hP'.cg rfl rfl rfl rfl rfl rfl (kA2 3 (by decide)) (kA2 4 (by decide)) (kA2 14 (by decide)) (kA2 15 (by decide))
          refine r_if_ne_b (tgt := 93) dX8_read_84 (by decide) (fun h84 => absurd h84 (by decide)) (fun h84 => ?_)
          first | refine r_aload_n dX8_read_87 rfl ?_ | refine r_aload_nq dX8_read_87 rfl ?_ | refine r_aload_nN dX8_read_87 rfl ?_
          refine r_iconst (v := nI 0) dX8_read_88 (by decide) ?_
          refine r_callV s_X8_93_v dX8_read_89 (by first | exact MAt.o (by assumption) | exact MAt.a1 (by assumption) | exact MAt.a2 (by assumption) | exact MAt.a3 (by assumption) | exact MAt.a4 (by assumption) | exact MAt.a5 (by assumption) | exact MAt.a6 (by assumption) | exact MAt.a7 (by assumption) | exact MAt.a8 (by assumption) | exact MAt.a9 (by assumption) | exact MAt.a10 (by assumption) | exact MAt.a11 (by assumption) | exact MAt.a12 (by assumption) | exact MAt.a13 (by assumption) | exact MAt.a14 (by assumption) | exact MAt.a15 (by assumption) | exact MAt.a16 (by assumption)) (by rfl) rfl (Nat.le_of_ble_eq_true rfl) (m_endsF (X := xRef (xTxt X [] 0) 3 dt) hM (hPa.ref 2 (by decide) _) (by show mR (xW X) (A'' 2); rw [kA2 2 (by decide)]; exact hR2') hb _ 2 rfl (by decide) (by decide) (fun M hX => ?_))
          refine mK_r ?_
          refine r_iret rfl (by first | rfl | exact bI_nar _ | exact (pk_charN (by first | assumption | omega)).1) dX8_read_92 ?_
          exact hq _ hX
    refine r_iconst (v := nI 0) dX8_read_44 (by decide) ?_
    refine r_istore_n dX8_read_45 (by decide) ?_
    simp only [mst1, mclr]
    exact loop cl.length 0 M A' (by omega) hM' (fun _ _ => rfl) (fun j hj => by rw [a1]) (fun i hi => absurd hi (Nat.not_lt_zero i)) (fun j y hj _ => absurd hj (Nat.not_lt_zero j))
end READ4
