/-! ===== the model: the line ===== -/
/-- the signs of a clause -/
def clS (s o t : Nat) : List Nat := chS s :: ((if 2 ≤ s ∧ s ≤ 6 then [48 + o] else []) ++ (if s = 4 ∨ s = 5 then [48 + t] else []))
def wLn (W : WT) : Nat → List Nat
  | 0 => []
  | k + 1 => wLn W k ++ clS (wso W k) (won W k) (wot W k)
def spLine (X : XT) : RT := (0, nI (wLn (xW X) (wn (xW X))).length, xLin X (wLn (xW X) (wn (xW X))))
theorem clS_le (s o t : Nat) : (clS s o t).length ≤ 3 := by
  unfold clS
  split <;> split <;> simp
theorem wLn_le (W : WT) : ∀ k, (wLn W k).length ≤ 3 * k
  | 0 => Nat.le_refl _
  | k + 1 => by
    have h1 := wLn_le W k
    have h2 := clS_le (wso W k) (won W k) (wot W k)
    unfold wLn; rw [List.length_append]; omega
theorem clS_c {m s o t : Nat} (hm : m ≤ 8) (h : clOk m s o t) : ∀ c ∈ clS s o t, c < 65536 := by
  intro c hc
  obtain ⟨h1, h2, h3, h4, h5, h6⟩ := h
  have := chS_lt s h1
  unfold clS at hc
  rcases List.mem_cons.mp hc with rfl | hc
  · omega
  · rcases List.mem_append.mp hc with hc | hc
    · split at hc
      · rw [List.mem_singleton.mp hc]
        rename_i hh
        have : o < 8 := by
          rcases (show (4 ≤ s ∧ s ≤ 6) ∨ (s = 2 ∨ s = 3) by omega) with q | q
          · have := h2 q; omega
          · have := h3 q; omega
        omega
      · cases hc
    · split at hc
      · rw [List.mem_singleton.mp hc]
        rename_i hh
        have := h4 hh
        omega
      · cases hc
theorem wLn_c {W : WT} (hw : wOk W) : ∀ k, k ≤ wn W → ∀ c ∈ wLn W k, c < 65536
  | 0, _, c, hc => by cases hc
  | k + 1, hk, c, hc => by
    unfold wLn at hc
    rcases List.mem_append.mp hc with h | h
    · exact wLn_c hw k (by omega) c h
    · exact clS_c hw.1 (hw.2.2.2.2.2 k (by omega)) c h
theorem i2c_n : ∀ x, x < 128 → ((nI x).toUInt32 % 65536).toInt32 = nI x := by decide +kernel
/-- a row holds a list -/
def rowL (n : Nat) (f : Nat → Nat) (l : List Nat) : Prop := n = l.length ∧ ∀ i c, l[i]? = some c → f i = c
theorem rowL.push {n : Nat} {f : Nat → Nat} {l : List Nat} (h : rowL n f l) (c : Nat) : rowL (n + 1) (fU f n c) (l ++ [c]) := by
  obtain ⟨rfl, h2⟩ := h
  refine ⟨by rw [List.length_append]; rfl, fun i z hz => ?_⟩
  rcases Nat.lt_trichotomy i l.length with h | h | h
  · rw [List.getElem?_append_left h] at hz
    rw [fU_ne (by omega)]; exact h2 i z hz
  · subst h
    rw [List.getElem?_append_right (Nat.le_refl _), Nat.sub_self] at hz
    cases hz
    rw [fU_eq]
  · rw [List.getElem?_append_right (by omega), List.getElem?_eq_none (by simp; omega)] at hz
    cases hz
section LINE
variable {G : mG} {y : mY} {d pc : Nat} {L : List (Option Value)} {st : List Value} {B M : mM} {m t u th : Nat} {X : XT} {F : Nat → Nat} {D : Int32} {A : Nat → Nat → Nat} {Q : mQt}
theorem mMet.kn {z : mY} {as : List Value} (h : mKn G → mMet G d z as M t u Q) : mMet G d z as M t u Q := fun hG => h hG hG
theorem m_says (h : MAt B M m F D A) (hb : mGb G ≤ m) {l : List Nat} (hl : rowL (F 26) (A 14) l) (hn : l.length < 72) (c : Nat) (hc : c < 65536)
   (hq : ∀ M F' A', MAt B M m F' D A' → (∀ i, i ≠ 26 → F' i = F i) → (∀ i, i ≠ 14 → A' i = A i) → rowL (F' 26) (A' 14) (l ++ [c]) → Q (.inl none) M t u) : mMet G d zX8_says [.ref m, .int (nI c)] M t u Q := by
  refine m_intro (by decide +kernel) ⟨Nat.le_of_ble_eq_true rfl, Nat.le_of_ble_eq_true rfl⟩ ?_
  show mW G _ _ 0 [some (.ref m), some (.int (nI c))] [] _ _ _ _
  have hch := (pk_charN hc).1
  have h26 : F 26 = l.length := hl.1
  first | refine r_aload_n dX8_says_0 rfl ?_ | refine r_aload_nq dX8_says_0 rfl ?_ | refine r_aload_nN dX8_says_0 rfl ?_
  refine r_getf f_X8_50_7 (by first | exact MAt.o (by assumption) | exact MAt.a1 (by assumption) | exact MAt.a2 (by assumption) | exact MAt.a3 (by assumption) | exact MAt.a4 (by assumption) | exact MAt.a5 (by assumption) | exact MAt.a6 (by assumption) | exact MAt.a7 (by assumption) | exact MAt.a8 (by assumption) | exact MAt.a9 (by assumption) | exact MAt.a10 (by assumption) | exact MAt.a11 (by assumption) | exact MAt.a12 (by assumption) | exact MAt.a13 (by assumption) | exact MAt.a14 (by assumption) | exact MAt.a15 (by assumption) | exact MAt.a16 (by assumption)) (by rfl) dX8_says_1 ?_
  first | refine r_aload_n dX8_says_4 rfl ?_ | refine r_aload_nq dX8_says_4 rfl ?_ | refine r_aload_nN dX8_says_4 rfl ?_
  refine r_getf f_X8_266_7 (by first | exact MAt.o (by assumption) | exact MAt.a1 (by assumption) | exact MAt.a2 (by assumption) | exact MAt.a3 (by assumption) | exact MAt.a4 (by assumption) | exact MAt.a5 (by assumption) | exact MAt.a6 (by assumption) | exact MAt.a7 (by assumption) | exact MAt.a8 (by assumption) | exact MAt.a9 (by assumption) | exact MAt.a10 (by assumption) | exact MAt.a11 (by assumption) | exact MAt.a12 (by assumption) | exact MAt.a13 (by assumption) | exact MAt.a14 (by assumption) | exact MAt.a15 (by assumption) | exact MAt.a16 (by assumption)) (by rfl) dX8_says_5 ?_
  refine r_iload_n dX8_says_8 rfl ?_
  refine r_cast_n (by first | exact MAt.o (by assumption) | exact MAt.a1 (by assumption) | exact MAt.a2 (by assumption) | exact MAt.a3 (by assumption) | exact MAt.a4 (by assumption) | exact MAt.a5 (by assumption) | exact MAt.a6 (by assumption) | exact MAt.a7 (by assumption) | exact MAt.a8 (by assumption) | exact MAt.a9 (by assumption) | exact MAt.a10 (by assumption) | exact MAt.a11 (by assumption) | exact MAt.a12 (by assumption) | exact MAt.a13 (by assumption) | exact MAt.a14 (by assumption) | exact MAt.a15 (by assumption) | exact MAt.a16 (by assumption)) (by rfl) (by omega) (by omega) (by omega) (by first | rfl | assumption) dX8_says_9 ?_
  first | refine MAt.g14 (by assumption) (fun M hM => ?_) | refine MAt.g15 (by assumption) (fun M hM => ?_)
  first | refine r_aload_n dX8_says_10 rfl ?_ | refine r_aload_nq dX8_says_10 rfl ?_ | refine r_aload_nN dX8_says_10 rfl ?_
  refine r_dup dX8_says_11 (by rfl) ?_
  refine r_getf f_X8_266_7 (by first | exact MAt.o (by assumption) | exact MAt.a1 (by assumption) | exact MAt.a2 (by assumption) | exact MAt.a3 (by assumption) | exact MAt.a4 (by assumption) | exact MAt.a5 (by assumption) | exact MAt.a6 (by assumption) | exact MAt.a7 (by assumption) | exact MAt.a8 (by assumption) | exact MAt.a9 (by assumption) | exact MAt.a10 (by assumption) | exact MAt.a11 (by assumption) | exact MAt.a12 (by assumption) | exact MAt.a13 (by assumption) | exact MAt.a14 (by assumption) | exact MAt.a15 (by assumption) | exact MAt.a16 (by assumption)) (by rfl) dX8_says_12 ?_
  refine r_iconst (v := nI 1) dX8_says_15 (by decide) ?_
  first | refine r_iadd_n dX8_says_16 ?_ | refine r_iadd dX8_says_16 ?_
  refine r_putf f_X8_266_7 ft_7_26 (by first | exact MAt.o (by assumption) | exact MAt.a1 (by assumption) | exact MAt.a2 (by assumption) | exact MAt.a3 (by assumption) | exact MAt.a4 (by assumption) | exact MAt.a5 (by assumption) | exact MAt.a6 (by assumption) | exact MAt.a7 (by assumption) | exact MAt.a8 (by assumption) | exact MAt.a9 (by assumption) | exact MAt.a10 (by assumption) | exact MAt.a11 (by assumption) | exact MAt.a12 (by assumption) | exact MAt.a13 (by assumption) | exact MAt.a14 (by assumption) | exact MAt.a15 (by assumption) | exact MAt.a16 (by assumption)) (by omega) (by first | rfl | exact bI_nar _) (by first | rfl | exact bI_fit _) dX8_says_17 ?_
  refine MAt.p26 (by assumption) (fun M hM => ?_)
  refine r_vret rfl dX8_says_20 ?_
  exact hq _ _ _ hM (fun i hi => fU_ne hi) (fun i hi => fA_ne hi) (by rw [fU_eq, fA_eq]; exact hl.push c)
theorem m_line (h : MX B M m X th) (hb : mGb G ≤ m) (hq : ∀ M, MX B M m (spLine X).2.2 (spLine X).1 → Q (.inl (some (.int (spLine X).2.1))) M t u) : mMet G (d + 4) zX8_line [.ref m] M t u Q := by
  refine mMet.kn (fun hG => ?_)
  obtain ⟨la, lb, hL, hV⟩ := kLitM hG
  refine m_intro (by decide +kernel) ⟨Nat.le_of_ble_eq_true rfl, Nat.le_of_ble_eq_true rfl⟩ ?_
  show mW G _ _ 0 [some (.ref m), none, none] [] _ _ _ _
  obtain ⟨F, A, hM, hP, hR, h6⟩ := h.un
  obtain ⟨⟨e0, hm⟩, ⟨e1, hn⟩, ⟨e2, hcg⟩, e3, e4, e5⟩ := mR_up hP.1.1 hR
  have loop : ∀ n k M F' A' v2, k + n = wn (xW X) → MAt B M m F' (xD X) A' → (∀ i, i ≠ 26 → F' i = fU F 6 0 i) → (∀ i, i ≠ 14 → A' i = A i) → rowL (F' 26) (A' 14) (wLn (xW X) k) → mW G zX8_line (d + 4) 12 [some (.ref m), some (.int (nI k)), v2] [] M t u Q := by
    intro n
    induction n with
    | zero =>
      intro k M F' A' v2 hk hM kF kA hrow
      have hk : k = wn (xW X) := by omega
      subst hk
      have a1 : A' 1 = A 1 := kA 1 (by decide)
      have a11 : A' 1 1 = wn (xW X) := by rw [a1]; exact e1
      have hle := wLn_le (xW X) (wn (xW X))
      refine r_iload_n dX8_line_12 rfl ?_
      first | refine r_aload_n dX8_line_13 rfl ?_ | refine r_aload_nq dX8_line_13 rfl ?_ | refine r_aload_nN dX8_line_13 rfl ?_
      refine r_getf f_X8_9_7 (by first | exact MAt.o (by assumption) | exact MAt.a1 (by assumption) | exact MAt.a2 (by assumption) | exact MAt.a3 (by assumption) | exact MAt.a4 (by assumption) | exact MAt.a5 (by assumption) | exact MAt.a6 (by assumption) | exact MAt.a7 (by assumption) | exact MAt.a8 (by assumption) | exact MAt.a9 (by assumption) | exact MAt.a10 (by assumption) | exact MAt.a11 (by assumption) | exact MAt.a12 (by assumption) | exact MAt.a13 (by assumption) | exact MAt.a14 (by assumption) | exact MAt.a15 (by assumption) | exact MAt.a16 (by assumption)) (by rfl) dX8_line_14 ?_
      refine r_iconst (v := nI 1) dX8_line_17 (by decide) ?_
      refine r_iald_n (by first | exact MAt.o (by assumption) | exact MAt.a1 (by assumption) | exact MAt.a2 (by assumption) | exact MAt.a3 (by assumption) | exact MAt.a4 (by assumption) | exact MAt.a5 (by assumption) | exact MAt.a6 (by assumption) | exact MAt.a7 (by assumption) | exact MAt.a8 (by assumption) | exact MAt.a9 (by assumption) | exact MAt.a10 (by assumption) | exact MAt.a11 (by assumption) | exact MAt.a12 (by assumption) | exact MAt.a13 (by assumption) | exact MAt.a14 (by assumption) | exact MAt.a15 (by assumption) | exact MAt.a16 (by assumption)) (by rfl) (by omega) (by omega) dX8_line_18 ?_
      first | refine r_icmp_ge_n (tgt := 92) dX8_line_19 (by decide) (by omega) (by omega) (fun h19 => ?_) (fun h19 => by exfalso; omega) | refine r_icmp_ge (tgt := 92) dX8_line_19 (by decide) (fun h19 => ?_) (fun h19 => by exfalso; omega)
      first | refine r_aload_n dX8_line_92 rfl ?_ | refine r_aload_nq dX8_line_92 rfl ?_ | refine r_aload_nN dX8_line_92 rfl ?_
      refine r_getf f_X8_266_7 (by first | exact MAt.o (by assumption) | exact MAt.a1 (by assumption) | exact MAt.a2 (by assumption) | exact MAt.a3 (by assumption) | exact MAt.a4 (by assumption) | exact MAt.a5 (by assumption) | exact MAt.a6 (by assumption) | exact MAt.a7 (by assumption) | exact MAt.a8 (by assumption) | exact MAt.a9 (by assumption) | exact MAt.a10 (by assumption) | exact MAt.a11 (by assumption) | exact MAt.a12 (by assumption) | exact MAt.a13 (by assumption) | exact MAt.a14 (by assumption) | exact MAt.a15 (by assumption) | exact MAt.a16 (by assumption)) (by rfl) dX8_line_93 ?_
      refine r_iret rfl (by first | rfl | exact bI_nar _ | exact (pk_charN (by first | assumption | omega)).1) dX8_line_96 ?_
      rw [hrow.1]
      obtain ⟨⟨o1, o2, o3, o4, o5, o6, o7, o8, o9, o10⟩, p2, p3, p4, p5, p6, p7, p8, p9, p10⟩ := hP
      refine hq _ (MX_iff.mpr ⟨F', A', hM, ⟨⟨o1, o2, o3, o4, o5, o6, by show (wLn _ _).length ≤ 72; omega, wLn_c o1 _ (Nat.le_refl _), o9, o10⟩, ?_, ?_, ?_, ?_, ?_, hrow.1, hrow.2, ?_, ?_⟩, by rw [a1]; exact hR, ?_⟩)
      · rw [kF 5 (by decide)]; exact p2
      · rw [kA 4 (by decide)]; exact p3
      · rw [kF 3 (by decide), kA 3 (by decide)]; exact p4
      · rw [kF 28 (by decide)]; exact p5
      · rw [kA 15 (by decide)]; exact p6
      · rw [kF 29 (by decide)]; exact p9
      · rw [kF 7 (by decide)]; exact p10
      · rw [kF 6 (by decide)]; exact fU_eq
    | succ n ih =>
      intro k M F' A' v2 hk hM kF kA hrow
      have a1 : A' 1 = A 1 := kA 1 (by decide)
      have a11 : A' 1 1 = wn (xW X) := by rw [a1]; exact e1
      obtain ⟨s1, s2, s3, c1, c2, c3, c4, c5, c6⟩ := e5 k (by omega)
      have s1' : A' 1 (37 + 3 * k) = wso (xW X) k := by rw [a1]; exact s1
      have s2' : A' 1 (38 + 3 * k) = won (xW X) k := by rw [a1]; exact s2
      have s3' : A' 1 (39 + 3 * k) = wot (xW X) k := by rw [a1]; exact s3
      have hle := wLn_le (xW X) k
      have hch := chS_lt _ c1
      -- behind the clause's signs
      have fin : ∀ M F'' A'', MAt B M m F'' (xD X) A'' → (∀ i, i ≠ 26 → F'' i = F' i) → (∀ i, i ≠ 14 → A'' i = A' i) → rowL (F'' 26) (A'' 14) (wLn (xW X) k ++ clS (wso (xW X) k) (won (xW X) k) (wot (xW X) k)) → mW G zX8_line (d + 4) 86 [some (.ref m), some (.int (nI k)), some (.int (nI (wso (xW X) k)))] [] M t u Q := by
        intro M F'' A'' hM g1 g2 g3
        first | refine r_iinc_n 1 dX8_line_86 rfl (by decide) ?_ | refine r_iinc dX8_line_86 rfl rfl (by decide) ?_
        simp only [mst1, mclr]
        refine r_goto (tgt := 12) dX8_line_89 (by decide) ?_
        exact ih (k + 1) M F'' A'' _ (by omega) hM (fun i hi => (g1 i hi).trans (kF i hi)) (fun i hi => (g2 i hi).trans (kA i hi)) g3
      -- behind the first number
      have second : ∀ M F'' A'' l, MAt B M m F'' (xD X) A'' → (∀ i, i ≠ 26 → F'' i = F' i) → (∀ i, i ≠ 14 → A'' i = A' i) → rowL (F'' 26) (A'' 14) l → l.length < 72 → l ++ (if wso (xW X) k = 4 ∨ wso (xW X) k = 5 then [48 + wot (xW X) k] else []) = wLn (xW X) k ++ clS (wso (xW X) k) (won (xW X) k) (wot (xW X) k) → mW G zX8_line (d + 4) 66 [some (.ref m), some (.int (nI k)), some (.int (nI (wso (xW X) k)))] [] M t u Q := by
        intro M F'' A'' l hM g1 g2 g3 hl he
        have b1 : A'' 1 = A 1 := (g2 1 (by decide)).trans a1
        refine r_iload_n dX8_line_66 rfl ?_
        refine r_callS s_X8_142_s dX8_line_67 (by rfl) rfl (Nat.le_of_ble_eq_true rfl) (m_isPut _ (by omega) (nm_e ?_))
        refine mK_r ?_
        first | refine r_if_eq_b (tgt := 86) dX8_line_70 (by decide) (fun h70 => ?_) (fun h70 => ?_) | refine r_if_eq_n (tgt := 86) dX8_line_70 (by decide) (by omega) (fun h70 => ?_) (fun h70 => ?_) | refine r_if_eq (tgt := 86) dX8_line_70 (by decide) (fun h70 => ?_) (fun h70 => ?_)
        · have := of_decide_eq_false h70
          rw [if_neg this, List.append_nil] at he
          exact fin M F'' A'' hM g1 g2 (by rw [← he]; exact g3)
        · have hp := of_decide_eq_true h70
          rw [if_pos hp] at he
          have ht := c4 hp
          have t1 : A'' 1 (37 + 3 * k) = wso (xW X) k := by rw [b1]; exact s1
          have t3 : A'' 1 (39 + 3 * k) = wot (xW X) k := by rw [b1]; exact s3
          have hcG : cGood (A'' 1 (37 + 3 * k)) (A'' 1 (38 + 3 * k)) (A'' 1 (39 + 3 * k)) = wot (xW X) k + 1 := by unfold cGood; rw [t1, t3, if_neg (by omega), if_pos hp]
          first | refine r_aload_n dX8_line_73 rfl ?_ | refine r_aload_nq dX8_line_73 rfl ?_ | refine r_aload_nN dX8_line_73 rfl ?_
          refine r_bipush (v := nI 48) dX8_line_74 (by decide) ?_
          first | refine r_aload_n dX8_line_76 rfl ?_ | refine r_aload_nq dX8_line_76 rfl ?_ | refine r_aload_nN dX8_line_76 rfl ?_
          refine r_iload_n dX8_line_77 rfl ?_
          refine r_callV s_X8_113_v dX8_line_78 (by first | exact MAt.o (by assumption) | exact MAt.a1 (by assumption) | exact MAt.a2 (by assumption) | exact MAt.a3 (by assumption) | exact MAt.a4 (by assumption) | exact MAt.a5 (by assumption) | exact MAt.a6 (by assumption) | exact MAt.a7 (by assumption) | exact MAt.a8 (by assumption) | exact MAt.a9 (by assumption) | exact MAt.a10 (by assumption) | exact MAt.a11 (by assumption) | exact MAt.a12 (by assumption) | exact MAt.a13 (by assumption) | exact MAt.a14 (by assumption) | exact MAt.a15 (by assumption) | exact MAt.a16 (by assumption)) (by rfl) rfl (Nat.le_of_ble_eq_true rfl) (m_goodIn hM k (by omega) (by omega) (nm_e ?_))
          refine mK_r ?_
          rw [hcG]
          show mW _ _ _ _ _ [.int (nI (wot (xW X) k)), _, _] _ _ _ _
          first | refine r_iadd_n dX8_line_81 ?_ | refine r_iadd dX8_line_81 ?_
          refine r_i2c dX8_line_82 ?_
          rw [i2c_n _ (by omega)]
          refine r_callV s_X8_277_v dX8_line_83 (by first | exact MAt.o (by assumption) | exact MAt.a1 (by assumption) | exact MAt.a2 (by assumption) | exact MAt.a3 (by assumption) | exact MAt.a4 (by assumption) | exact MAt.a5 (by assumption) | exact MAt.a6 (by assumption) | exact MAt.a7 (by assumption) | exact MAt.a8 (by assumption) | exact MAt.a9 (by assumption) | exact MAt.a10 (by assumption) | exact MAt.a11 (by assumption) | exact MAt.a12 (by assumption) | exact MAt.a13 (by assumption) | exact MAt.a14 (by assumption) | exact MAt.a15 (by assumption) | exact MAt.a16 (by assumption)) (by rfl) rfl (Nat.le_of_ble_eq_true rfl) (m_says hM hb g3 hl (48 + wot (xW X) k) (by omega) (fun M F3 A3 hM3 k1 k2 k3 => ?_))
          refine mK_v ?_
          exact fin M F3 A3 hM3 (fun i hi => (k1 i hi).trans (g1 i hi)) (fun i hi => (k2 i hi).trans (g2 i hi)) (by rw [← he]; exact k3)
      have first : ∀ M F'' A'', MAt B M m F'' (xD X) A'' → (∀ i, i ≠ 26 → F'' i = F' i) → (∀ i, i ≠ 14 → A'' i = A' i) → rowL (F'' 26) (A'' 14) (wLn (xW X) k ++ [chS (wso (xW X) k)]) → (2 ≤ wso (xW X) k ∧ wso (xW X) k ≤ 6) → mW G zX8_line (d + 4) 53 [some (.ref m), some (.int (nI k)), some (.int (nI (wso (xW X) k)))] [] M t u Q := by
        intro M F'' A'' hM g1 g2 g3 hp
        have b1 : A'' 1 = A 1 := (g2 1 (by decide)).trans a1
        have t2 : A'' 1 (38 + 3 * k) = won (xW X) k := by rw [b1]; exact s2
        have ho : won (xW X) k < 8 := by
          rcases (show (4 ≤ wso (xW X) k ∧ wso (xW X) k ≤ 6) ∨ (wso (xW X) k = 2 ∨ wso (xW X) k = 3) by omega) with q | q
          · have := c2 q; omega
          · have := c3 q; omega
        first | refine r_aload_n dX8_line_53 rfl ?_ | refine r_aload_nq dX8_line_53 rfl ?_ | refine r_aload_nN dX8_line_53 rfl ?_
        refine r_bipush (v := nI 48) dX8_line_54 (by decide) ?_
        first | refine r_aload_n dX8_line_56 rfl ?_ | refine r_aload_nq dX8_line_56 rfl ?_ | refine r_aload_nN dX8_line_56 rfl ?_
        refine r_iload_n dX8_line_57 rfl ?_
        refine r_callV s_X8_133_v dX8_line_58 (by first | exact MAt.o (by assumption) | exact MAt.a1 (by assumption) | exact MAt.a2 (by assumption) | exact MAt.a3 (by assumption) | exact MAt.a4 (by assumption) | exact MAt.a5 (by assumption) | exact MAt.a6 (by assumption) | exact MAt.a7 (by assumption) | exact MAt.a8 (by assumption) | exact MAt.a9 (by assumption) | exact MAt.a10 (by assumption) | exact MAt.a11 (by assumption) | exact MAt.a12 (by assumption) | exact MAt.a13 (by assumption) | exact MAt.a14 (by assumption) | exact MAt.a15 (by assumption) | exact MAt.a16 (by assumption)) (by rfl) rfl (Nat.le_of_ble_eq_true rfl) (m_one hM k (by omega) ?_)
        refine mK_r ?_
        rw [t2]
        first | refine r_iadd_n dX8_line_61 ?_ | refine r_iadd dX8_line_61 ?_
        refine r_i2c dX8_line_62 ?_
        rw [i2c_n _ (by omega)]
        refine r_callV s_X8_277_v dX8_line_63 (by first | exact MAt.o (by assumption) | exact MAt.a1 (by assumption) | exact MAt.a2 (by assumption) | exact MAt.a3 (by assumption) | exact MAt.a4 (by assumption) | exact MAt.a5 (by assumption) | exact MAt.a6 (by assumption) | exact MAt.a7 (by assumption) | exact MAt.a8 (by assumption) | exact MAt.a9 (by assumption) | exact MAt.a10 (by assumption) | exact MAt.a11 (by assumption) | exact MAt.a12 (by assumption) | exact MAt.a13 (by assumption) | exact MAt.a14 (by assumption) | exact MAt.a15 (by assumption) | exact MAt.a16 (by assumption)) (by rfl) rfl (Nat.le_of_ble_eq_true rfl) (m_says hM hb g3 (by rw [List.length_append]; show _ + 1 < 72; omega) (48 + won (xW X) k) (by omega) (fun M F3 A3 hM3 k1 k2 k3 => ?_))
        refine mK_v ?_
        refine second M F3 A3 _ hM3 (fun i hi => (k1 i hi).trans (g1 i hi)) (fun i hi => (k2 i hi).trans (g2 i hi)) k3 (by simp only [List.length_append, List.length_cons, List.length_nil]; omega) ?_
        unfold clS
        rw [if_pos hp]
        simp
      refine r_iload_n dX8_line_12 rfl ?_
      first | refine r_aload_n dX8_line_13 rfl ?_ | refine r_aload_nq dX8_line_13 rfl ?_ | refine r_aload_nN dX8_line_13 rfl ?_
      refine r_getf f_X8_9_7 (by first | exact MAt.o (by assumption) | exact MAt.a1 (by assumption) | exact MAt.a2 (by assumption) | exact MAt.a3 (by assumption) | exact MAt.a4 (by assumption) | exact MAt.a5 (by assumption) | exact MAt.a6 (by assumption) | exact MAt.a7 (by assumption) | exact MAt.a8 (by assumption) | exact MAt.a9 (by assumption) | exact MAt.a10 (by assumption) | exact MAt.a11 (by assumption) | exact MAt.a12 (by assumption) | exact MAt.a13 (by assumption) | exact MAt.a14 (by assumption) | exact MAt.a15 (by assumption) | exact MAt.a16 (by assumption)) (by rfl) dX8_line_14 ?_
      refine r_iconst (v := nI 1) dX8_line_17 (by decide) ?_
      refine r_iald_n (by first | exact MAt.o (by assumption) | exact MAt.a1 (by assumption) | exact MAt.a2 (by assumption) | exact MAt.a3 (by assumption) | exact MAt.a4 (by assumption) | exact MAt.a5 (by assumption) | exact MAt.a6 (by assumption) | exact MAt.a7 (by assumption) | exact MAt.a8 (by assumption) | exact MAt.a9 (by assumption) | exact MAt.a10 (by assumption) | exact MAt.a11 (by assumption) | exact MAt.a12 (by assumption) | exact MAt.a13 (by assumption) | exact MAt.a14 (by assumption) | exact MAt.a15 (by assumption) | exact MAt.a16 (by assumption)) (by rfl) (by omega) (by omega) dX8_line_18 ?_
      first | refine r_icmp_ge_n (tgt := 92) dX8_line_19 (by decide) (by omega) (by omega) (fun h19 => by exfalso; omega) (fun h19 => ?_) | refine r_icmp_ge (tgt := 92) dX8_line_19 (by decide) (fun h19 => by exfalso; omega) (fun h19 => ?_)
      first | refine r_aload_n dX8_line_22 rfl ?_ | refine r_aload_nq dX8_line_22 rfl ?_ | refine r_aload_nN dX8_line_22 rfl ?_
      refine r_iload_n dX8_line_23 rfl ?_
      refine r_callV s_X8_110_v dX8_line_24 (by first | exact MAt.o (by assumption) | exact MAt.a1 (by assumption) | exact MAt.a2 (by assumption) | exact MAt.a3 (by assumption) | exact MAt.a4 (by assumption) | exact MAt.a5 (by assumption) | exact MAt.a6 (by assumption) | exact MAt.a7 (by assumption) | exact MAt.a8 (by assumption) | exact MAt.a9 (by assumption) | exact MAt.a10 (by assumption) | exact MAt.a11 (by assumption) | exact MAt.a12 (by assumption) | exact MAt.a13 (by assumption) | exact MAt.a14 (by assumption) | exact MAt.a15 (by assumption) | exact MAt.a16 (by assumption)) (by rfl) rfl (Nat.le_of_ble_eq_true rfl) (m_sort hM k (by omega) ?_)
      refine mK_r ?_
      rw [s1']
      refine r_istore_n dX8_line_27 (by decide) ?_
      simp only [mst1, mclr]
      first | refine r_aload_n dX8_line_28 rfl ?_ | refine r_aload_nq dX8_line_28 rfl ?_ | refine r_aload_nN dX8_line_28 rfl ?_
      refine r_ldcwS hV dX8_line_29 ?_
      refine r_iload_n dX8_line_32 rfl ?_
      refine r_callLit s_X8_271_v dX8_line_33 hL (by rfl) rfl (Nat.le_of_ble_eq_true rfl) (j_charAtL hL (wso (xW X) k) c1 ?_)
      refine mK_r ?_
      refine r_callV s_X8_277_v dX8_line_36 (by first | exact MAt.o (by assumption) | exact MAt.a1 (by assumption) | exact MAt.a2 (by assumption) | exact MAt.a3 (by assumption) | exact MAt.a4 (by assumption) | exact MAt.a5 (by assumption) | exact MAt.a6 (by assumption) | exact MAt.a7 (by assumption) | exact MAt.a8 (by assumption) | exact MAt.a9 (by assumption) | exact MAt.a10 (by assumption) | exact MAt.a11 (by assumption) | exact MAt.a12 (by assumption) | exact MAt.a13 (by assumption) | exact MAt.a14 (by assumption) | exact MAt.a15 (by assumption) | exact MAt.a16 (by assumption)) (by rfl) rfl (Nat.le_of_ble_eq_true rfl) (m_says hM hb hrow (by omega) (chS (wso (xW X) k)) (by omega) (fun M F2 A2 hM2 k1 k2 k3 => ?_))
      refine mK_v ?_
      refine r_iload_n dX8_line_39 rfl ?_
      refine r_callS s_X8_136_s dX8_line_40 (by rfl) rfl (Nat.le_of_ble_eq_true rfl) (m_hasPlough _ (by omega) (nm_e ?_))
      refine mK_r ?_
      first | refine r_if_ne_b (tgt := 53) dX8_line_43 (by decide) (fun h43 => ?_) (fun h43 => ?_) | refine r_if_ne_n (tgt := 53) dX8_line_43 (by decide) (by omega) (fun h43 => ?_) (fun h43 => ?_) | refine r_if_ne (tgt := 53) dX8_line_43 (by decide) (fun h43 => ?_) (fun h43 => ?_)
      · have hp := of_decide_eq_true h43
        exact first M F2 A2 hM2 k1 k2 k3 (by omega)
      · have hp := of_decide_eq_false h43
        refine r_iload_n dX8_line_46 rfl ?_
        refine r_callS s_X8_139_s dX8_line_47 (by rfl) rfl (Nat.le_of_ble_eq_true rfl) (m_hasGood _ (by omega) (nm_e ?_))
        refine mK_r ?_
        first | refine r_if_eq_b (tgt := 66) dX8_line_50 (by decide) (fun h50 => ?_) (fun h50 => ?_) | refine r_if_eq_n (tgt := 66) dX8_line_50 (by decide) (by omega) (fun h50 => ?_) (fun h50 => ?_) | refine r_if_eq (tgt := 66) dX8_line_50 (by decide) (fun h50 => ?_) (fun h50 => ?_)
        · have hg := of_decide_eq_false h50
          refine second M F2 A2 _ hM2 k1 k2 k3 (by rw [List.length_append]; show _ + 1 < 72; omega) ?_
          unfold clS
          rw [if_neg (show ¬ (2 ≤ wso (xW X) k ∧ wso (xW X) k ≤ 6) by omega)]
          simp
        · have hg := of_decide_eq_true h50
          exact first M F2 A2 hM2 k1 k2 k3 (by omega)
  first | refine r_aload_n dX8_line_0 rfl ?_ | refine r_aload_nq dX8_line_0 rfl ?_ | refine r_aload_nN dX8_line_0 rfl ?_
  refine r_iconst (v := nI 0) dX8_line_1 (by decide) ?_
  refine r_putf f_X8_64_7 ft_7_6 (by first | exact MAt.o (by assumption) | exact MAt.a1 (by assumption) | exact MAt.a2 (by assumption) | exact MAt.a3 (by assumption) | exact MAt.a4 (by assumption) | exact MAt.a5 (by assumption) | exact MAt.a6 (by assumption) | exact MAt.a7 (by assumption) | exact MAt.a8 (by assumption) | exact MAt.a9 (by assumption) | exact MAt.a10 (by assumption) | exact MAt.a11 (by assumption) | exact MAt.a12 (by assumption) | exact MAt.a13 (by assumption) | exact MAt.a14 (by assumption) | exact MAt.a15 (by assumption) | exact MAt.a16 (by assumption)) (by omega) (by first | rfl | exact bI_nar _) (by first | rfl | exact bI_fit _) dX8_line_2 ?_
  refine MAt.p6 (by assumption) (fun M hM => ?_)
  first | refine r_aload_n dX8_line_5 rfl ?_ | refine r_aload_nq dX8_line_5 rfl ?_ | refine r_aload_nN dX8_line_5 rfl ?_
  refine r_iconst (v := nI 0) dX8_line_6 (by decide) ?_
  refine r_putf f_X8_266_7 ft_7_26 (by first | exact MAt.o (by assumption) | exact MAt.a1 (by assumption) | exact MAt.a2 (by assumption) | exact MAt.a3 (by assumption) | exact MAt.a4 (by assumption) | exact MAt.a5 (by assumption) | exact MAt.a6 (by assumption) | exact MAt.a7 (by assumption) | exact MAt.a8 (by assumption) | exact MAt.a9 (by assumption) | exact MAt.a10 (by assumption) | exact MAt.a11 (by assumption) | exact MAt.a12 (by assumption) | exact MAt.a13 (by assumption) | exact MAt.a14 (by assumption) | exact MAt.a15 (by assumption) | exact MAt.a16 (by assumption)) (by omega) (by first | rfl | exact bI_nar _) (by first | rfl | exact bI_fit _) dX8_line_7 ?_
  refine MAt.p26 (by assumption) (fun M hM => ?_)
  refine r_iconst (v := nI 0) dX8_line_10 (by decide) ?_
  refine r_istore_n dX8_line_11 (by decide) ?_
  simp only [mst1, mclr]
  exact loop (wn (xW X)) 0 M _ A _ (by omega) hM (fun i hi => fU_ne hi) (fun _ _ => rfl) ⟨fU_eq, fun i c hc => by cases hc⟩
end LINE
