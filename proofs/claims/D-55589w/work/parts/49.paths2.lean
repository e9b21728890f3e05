/-! ===== the model: what is asked of paths ===== -/
/-- a sum -/
def sF (f : Nat → Nat) : Nat → Nat
  | 0 => 0
  | n + 1 => sF f n + f n
theorem sF_congr {f f' : Nat → Nat} : ∀ {n : Nat}, (∀ k, k < n → f k = f' k) → sF f n = sF f' n
  | 0, _ => rfl
  | n + 1, h => by unfold sF; rw [sF_congr (fun k hk => h k (by omega)), h n (by omega)]
theorem sF_le {f : Nat → Nat} {b : Nat} : ∀ {n : Nat}, (∀ k, k < n → f k ≤ b) → sF f n ≤ b * n
  | 0, _ => Nat.zero_le _
  | n + 1, h => by
    have h1 := sF_le (n := n) (fun k hk => h k (by omega))
    have h2 := h n (by omega)
    unfold sF; rw [Nat.mul_succ]; omega
/-- the worth of a clause: of the good that it gives -/
def wWo (W : WT) (k : Nat) : Nat := if wso W k = 3 then ww W (won W k) else 0
/-- whether path n goes through a clause -/
noncomputable def pOn (W : WT) (n k : Nat) : Bool := fOn (pT (wso W) (wn W)) 0 n k
noncomputable def pCh (W : WT) (n : Nat) : Nat := fCh (pT (wso W) (wn W)) n
def oLen (W : WT) (on : Nat → Bool) : Nat := sF (fun k => if on k = true then 1 else 0) (wn W)
def oWo (W : WT) (on : Nat → Bool) : Nat := sF (fun k => if on k = true then wWo W k else 0) (wn W)
/-- the tithes of what is given, clause by clause -/
def oTi (W : WT) (on : Nat → Bool) : Nat → UInt32
  | 0 => FP.fconst0
  | n + 1 => if on n = true ∧ wso W n = 3 then FP.fadd (oTi W on n) (wTi W (won W n)) else oTi W on n
noncomputable def pWo (W : WT) (n : Nat) : Nat := oWo W (pOn W n)
noncomputable def pTi (W : WT) (n : Nat) : UInt32 := oTi W (pOn W n) (wn W)
/-- the least or greatest of n numbers -/
def bst (gr : Bool) (f : Nat → Nat) : Nat → Nat
  | 0 => 0
  | n + 1 => if n = 0 then f 0 else if gr = true then max (bst gr f n) (f n) else min (bst gr f n) (f n)
/-- whether one is the greater -/
def fGt (a b : UInt32) : Bool := decide (FP.fcmp a b = some .gt)
/-- the first of the greatest of n + 1 floats -/
def rch (f : Nat → UInt32) : Nat → Nat
  | 0 => 0
  | n + 1 => if fGt (f (n + 1)) (f (rch f n)) = true then n + 1 else rch f n
theorem rch_le (f : Nat → UInt32) : ∀ n, rch f n ≤ n
  | 0 => Nat.le_refl _
  | n + 1 => by have := rch_le f n; unfold rch; split <;> omega
noncomputable def spPathOf (X : XT) (p w : Int32) : Nat × Int32 := if ¬ inB p (xN X) = true then (1, 0) else if ¬ inR w 0 4 = true then (2, 0) else
  (0, match w.toNatClampNeg with | 0 => nI (oLen (xW X) (pOn (xW X) p.toNatClampNeg)) | 1 => nI (pCh (xW X) p.toNatClampNeg) | 2 => nI (pWo (xW X) p.toNatClampNeg) | 3 => nI (zFin (xW X) (zRun (xW X) true (pOn (xW X) p.toNatClampNeg) (wn (xW X)))).1 | _ => pI (zFin (xW X) (zRun (xW X) true (pOn (xW X) p.toNatClampNeg) (wn (xW X)))).2.1)
noncomputable def spGoesBy (X : XT) (p k : Int32) : Nat × Bool := if ¬ inB p (xN X) = true then (1, false) else if ¬ inB k (wn (xW X)) = true then (2, false) else (0, pOn (xW X) p.toNatClampNeg k.toNatClampNeg)
noncomputable def spWorth (X : XT) (gr : Bool) : Nat × Int32 := if xN X = 0 then (1, 0) else (0, nI (bst gr (pWo (xW X)) (xN X)))
noncomputable def spTithes (X : XT) (p : Int32) : Nat × UInt32 := if ¬ inB p (xN X) = true then (1, FP.fconst0) else (0, pTi (xW X) p.toNatClampNeg)
noncomputable def spRichest (X : XT) : Nat × Int32 := if xN X = 0 then (1, 0) else (0, nI (rch (pTi (xW X)) (xN X - 1)))
theorem wTi_p {W : WT} (hw : wOk W) {g : Nat} (hg : g < wm W) : fP (wTi W g) := by
  unfold wTi
  split
  · exact fc0
  · obtain ⟨h1, h2, h3, h4, h5, h6⟩ := hw
    have a := h4 g hg
    have b := (h5 (wk W g) (by omega)).1
    exact fP_mul (i2f_q (by omega)) (rtF_q (by omega))
theorem oTi_p {W : WT} (hw : wOk W) (on : Nat → Bool) : ∀ {n}, n ≤ wn W → fP (oTi W on n)
  | 0, _ => fc0
  | n + 1, h => by
    unfold oTi
    split
    · rename_i hh
      have c := (hw.2.2.2.2.2 n (by omega)).2.2.1 (Or.inr hh.2)
      exact fP_add (oTi_p hw on (by omega)) (wTi_p hw c)
    · exact oTi_p hw on (by omega)
theorem wWo_le {W : WT} (hw : wOk W) {k : Nat} (hk : k < wn W) : wWo W k ≤ 99 := by
  unfold wWo
  split
  · rename_i hh
    have c := (hw.2.2.2.2.2 k hk).2.2.1 (Or.inr hh)
    exact (hw.2.2.2.1 _ c).2.2
  · omega
theorem oWo_le {W : WT} (hw : wOk W) (on : Nat → Bool) : oWo W on ≤ 99 * 24 := by
  have h1 := hw.2.1
  have h2 : oWo W on ≤ 99 * wn W := sF_le (fun k hk => by
    split
    · exact wWo_le hw hk
    · omega)
  omega
theorem bst_le {gr : Bool} {f : Nat → Nat} {b : Nat} (h : ∀ k, f k ≤ b) : ∀ n, bst gr f n ≤ b
  | 0 => Nat.zero_le _
  | n + 1 => by
    have h1 := bst_le (gr := gr) h n
    have h2 := h n
    unfold bst
    split
    · exact h 0
    · split
      · exact Nat.max_le.mpr ⟨h1, h2⟩
      · exact Nat.le_trans (Nat.min_le_left _ _) h1
section PATHS2
variable {G : mG} {y : mY} {d pc : Nat} {L : List (Option Value)} {st : List Value} {B M : mM} {m t u th : Nat} {X : XT} {F : Nat → Nat} {D : Int32} {A : Nat → Nat → Nat} {Q : mQt}
/-- a path is marked -/
theorem m_marksPath (h : MAt B M m F D A) (hb : mGb G ≤ m) {W : WT} (hw : wOk W) (hR : mR W (A 1)) (hm : nestB (wso W) (wn W) = true) (hme : me (A 8) (A 9) 0 (pT (wso W) (wn W))) (n : Nat) (hn : n < pN (wso W) (wn W))
   (hq : ∀ M F' A', MAt B M m F' D A' → (∀ i, i ≠ 23 → i ≠ 24 → F' i = F i) → (∀ i, i ≠ 13 → A' i = A i) → F' 23 = pCh W n → (∀ j, j < 24 → A' 13 j = if pOn W n j = true then 1 else 0) → Q (.inl none) M t u) : mMet G (d + 20) zX8_marksPath [.ref m, .int (nI n)] M t u Q := by
  refine m_intro (by decide +kernel) ⟨Nat.le_of_ble_eq_true rfl, Nat.le_of_ble_eq_true rfl⟩ ?_
  show mW G _ _ 0 [some (.ref m), some (.int (nI n)), none] [] _ _ _ _
  have hso : ∀ k, k < wn W → wso W k < 10 := fun k hk => (hw.2.2.2.2.2 k hk).1
  obtain ⟨⟨e0, hm'⟩, ⟨e1, hn'⟩, ⟨e2, hcg⟩, e3, e4, e5⟩ := mR_up hw hR
  obtain ⟨p1, p2⟩ := pT_spec hso hm
  have eN : pN (wso W) (wn W) = fc (pT (wso W) (wn W)) := by unfold pN; rw [if_pos hm]
  have hfh := fh_le (pT (wso W) (wn W))
  have hc256 := fc_256 (f := pT (wso W) (wn W)) (by omega)
  have loop : ∀ j i M A', i + j = 24 → MAt B M m F D A' → (∀ i, i ≠ 13 → A' i = A i) → (∀ q, q < i → A' 13 q = 0) → mW G zX8_marksPath (d + 20) 2 [some (.ref m), some (.int (nI n)), some (.int (nI i))] [] M t u Q := by
    intro j
    induction j with
    | zero =>
      intro i M A' hi hM ha hz
      have a1 : A' 1 = A 1 := ha 1 (by decide)
      refine r_iload_n dX8_marksPath_2 rfl ?_
      refine r_bipush (v := nI 24) dX8_marksPath_3 (by decide) ?_
      first | refine r_icmp_ge_n (tgt := 21) dX8_marksPath_5 (by decide) (by omega) (by omega) (fun h5 => ?_) (fun h5 => by exfalso; omega) | refine r_icmp_ge (tgt := 21) dX8_marksPath_5 (by decide) (fun h5 => ?_) (fun h5 => by exfalso; omega)
      first | refine r_aload_n dX8_marksPath_21 rfl ?_ | refine r_aload_nq dX8_marksPath_21 rfl ?_ | refine r_aload_nN dX8_marksPath_21 rfl ?_
      refine r_iconst (v := nI 0) dX8_marksPath_22 (by decide) ?_
      refine r_putf f_X8_235_7 ft_7_23 (by first | exact MAt.o (by assumption) | exact MAt.a1 (by assumption) | exact MAt.a2 (by assumption) | exact MAt.a3 (by assumption) | exact MAt.a4 (by assumption) | exact MAt.a5 (by assumption) | exact MAt.a6 (by assumption) | exact MAt.a7 (by assumption) | exact MAt.a8 (by assumption) | exact MAt.a9 (by assumption) | exact MAt.a10 (by assumption) | exact MAt.a11 (by assumption) | exact MAt.a12 (by assumption) | exact MAt.a13 (by assumption) | exact MAt.a14 (by assumption) | exact MAt.a15 (by assumption) | exact MAt.a16 (by assumption)) (by omega) (by first | rfl | exact bI_nar _) (by first | rfl | exact bI_fit _) dX8_marksPath_23 ?_
      refine MAt.p23 (by assumption) (fun M hM => ?_)
      first | refine r_aload_n dX8_marksPath_26 rfl ?_ | refine r_aload_nq dX8_marksPath_26 rfl ?_ | refine r_aload_nN dX8_marksPath_26 rfl ?_
      refine r_iload_n dX8_marksPath_27 rfl ?_
      refine r_putf f_X8_238_7 ft_7_24 (by first | exact MAt.o (by assumption) | exact MAt.a1 (by assumption) | exact MAt.a2 (by assumption) | exact MAt.a3 (by assumption) | exact MAt.a4 (by assumption) | exact MAt.a5 (by assumption) | exact MAt.a6 (by assumption) | exact MAt.a7 (by assumption) | exact MAt.a8 (by assumption) | exact MAt.a9 (by assumption) | exact MAt.a10 (by assumption) | exact MAt.a11 (by assumption) | exact MAt.a12 (by assumption) | exact MAt.a13 (by assumption) | exact MAt.a14 (by assumption) | exact MAt.a15 (by assumption) | exact MAt.a16 (by assumption)) (by omega) (by first | rfl | exact bI_nar _) (by first | rfl | exact bI_fit _) dX8_marksPath_28 ?_
      refine MAt.p24 (by assumption) (fun M hM => ?_)
      first | refine r_aload_n dX8_marksPath_31 rfl ?_ | refine r_aload_nq dX8_marksPath_31 rfl ?_ | refine r_aload_nN dX8_marksPath_31 rfl ?_
      refine r_iconst (v := nI 0) dX8_marksPath_32 (by decide) ?_
      first | refine r_aload_n dX8_marksPath_33 rfl ?_ | refine r_aload_nq dX8_marksPath_33 rfl ?_ | refine r_aload_nN dX8_marksPath_33 rfl ?_
      refine r_getf f_X8_9_7 (by first | exact MAt.o (by assumption) | exact MAt.a1 (by assumption) | exact MAt.a2 (by assumption) | exact MAt.a3 (by assumption) | exact MAt.a4 (by assumption) | exact MAt.a5 (by assumption) | exact MAt.a6 (by assumption) | exact MAt.a7 (by assumption) | exact MAt.a8 (by assumption) | exact MAt.a9 (by assumption) | exact MAt.a10 (by assumption) | exact MAt.a11 (by assumption) | exact MAt.a12 (by assumption) | exact MAt.a13 (by assumption) | exact MAt.a14 (by assumption) | exact MAt.a15 (by assumption) | exact MAt.a16 (by assumption)) (by rfl) dX8_marksPath_34 ?_
      refine r_iconst (v := nI 1) dX8_marksPath_37 (by decide) ?_
      refine r_iald_n (by first | exact MAt.o (by assumption) | exact MAt.a1 (by assumption) | exact MAt.a2 (by assumption) | exact MAt.a3 (by assumption) | exact MAt.a4 (by assumption) | exact MAt.a5 (by assumption) | exact MAt.a6 (by assumption) | exact MAt.a7 (by assumption) | exact MAt.a8 (by assumption) | exact MAt.a9 (by assumption) | exact MAt.a10 (by assumption) | exact MAt.a11 (by assumption) | exact MAt.a12 (by assumption) | exact MAt.a13 (by assumption) | exact MAt.a14 (by assumption) | exact MAt.a15 (by assumption) | exact MAt.a16 (by assumption)) (by rfl) (by omega) (by omega) dX8_marksPath_38 ?_
      rw [a1, e1]
      refine r_iconst (v := nI 1) dX8_marksPath_39 (by decide) ?_
      refine r_callV s_X8_241_v dX8_marksPath_40 (MAt.o hM) (by rfl) rfl (Nat.le_of_ble_eq_true rfl) (?_ : mMet G (d + 1 + 8 + 10) zX8_marks [.ref m, .int (nI 0), .int (nI (wn W)), .int (nI 1)] _ _ _ _)
      refine m_intro (by decide +kernel) ⟨Nat.le_of_ble_eq_true rfl, Nat.le_of_ble_eq_true rfl⟩ ?_
      show mW G _ _ 0 [some (.ref m), some (.int (nI 0)), some (.int (nI (wn W))), some (.int (nI 1)), none, none, none, none, none] [] _ _ _ _
      refine r_iload_n dX8_marks_0 rfl ?_
      refine r_istore dX8_marks_1 (by decide) ?_
      simp only [mst1, mclr]
      refine loopK hb (pT (wso W) (wn W)) 0 0 0 8 1 n (wn W) M _ A' _ _ _ _ _ _ hM (by rw [ha 8 (by decide), ha 9 (by decide)]; exact hme) (wb_congr (fun k h1 h2 => by rw [a1, (e5 k (by omega)).1]) p2) (by omega) hn' (by omega) (by decide) (by omega) (by omega) fU_eq (fun M F' A'' hM b1 b2 b3 b4 b5 => ?_)
      refine mK_v ?_
      refine r_vret rfl dX8_marksPath_43 ?_
      refine hq M F' A'' hM (fun i h1 h2 => by rw [b1 i h1 h2, fU_ne h2, fU_ne h1]) (fun i hi => (b2 i hi).trans (ha i hi)) ?_ (fun j hj => ?_)
      · rw [b3, fU_ne (by decide), fU_eq, Nat.zero_add, Nat.div_one]; rfl
      · rw [b5 j, Nat.div_one, hz j (by omega)]; rfl
    | succ j ih =>
      intro i M A' hi hM ha hz
      refine r_iload_n dX8_marksPath_2 rfl ?_
      refine r_bipush (v := nI 24) dX8_marksPath_3 (by decide) ?_
      first | refine r_icmp_ge_n (tgt := 21) dX8_marksPath_5 (by decide) (by omega) (by omega) (fun h5 => by exfalso; omega) (fun h5 => ?_) | refine r_icmp_ge (tgt := 21) dX8_marksPath_5 (by decide) (fun h5 => by exfalso; omega) (fun h5 => ?_)
      first | refine r_aload_n dX8_marksPath_8 rfl ?_ | refine r_aload_nq dX8_marksPath_8 rfl ?_ | refine r_aload_nN dX8_marksPath_8 rfl ?_
      refine r_getf f_X8_46_7 (by first | exact MAt.o (by assumption) | exact MAt.a1 (by assumption) | exact MAt.a2 (by assumption) | exact MAt.a3 (by assumption) | exact MAt.a4 (by assumption) | exact MAt.a5 (by assumption) | exact MAt.a6 (by assumption) | exact MAt.a7 (by assumption) | exact MAt.a8 (by assumption) | exact MAt.a9 (by assumption) | exact MAt.a10 (by assumption) | exact MAt.a11 (by assumption) | exact MAt.a12 (by assumption) | exact MAt.a13 (by assumption) | exact MAt.a14 (by assumption) | exact MAt.a15 (by assumption) | exact MAt.a16 (by assumption)) (by rfl) dX8_marksPath_9 ?_
      refine r_iload_n dX8_marksPath_12 rfl ?_
      refine r_iconst (v := nI 0) dX8_marksPath_13 (by decide) ?_
      refine r_zast_n (by first | exact MAt.o (by assumption) | exact MAt.a1 (by assumption) | exact MAt.a2 (by assumption) | exact MAt.a3 (by assumption) | exact MAt.a4 (by assumption) | exact MAt.a5 (by assumption) | exact MAt.a6 (by assumption) | exact MAt.a7 (by assumption) | exact MAt.a8 (by assumption) | exact MAt.a9 (by assumption) | exact MAt.a10 (by assumption) | exact MAt.a11 (by assumption) | exact MAt.a12 (by assumption) | exact MAt.a13 (by assumption) | exact MAt.a14 (by assumption) | exact MAt.a15 (by assumption) | exact MAt.a16 (by assumption)) (by rfl) (by omega) (by omega) (by omega) (by rfl) dX8_marksPath_14 ?_
      refine MAt.g13 (by assumption) (fun M hM => ?_)
      first | refine r_iinc_n 1 dX8_marksPath_15 rfl (by decide) ?_ | refine r_iinc dX8_marksPath_15 rfl rfl (by decide) ?_
      simp only [mst1, mclr]
      refine r_goto (tgt := 2) dX8_marksPath_18 (by decide) ?_
      refine ih (i + 1) M _ (by omega) hM (fun q hq => by rw [fA_ne hq]; exact ha q hq) (fun q hq => ?_)
      rw [fA_eq]
      by_cases e : q = i
      · rw [e, fU_eq]
      · rw [fU_ne e]; exact hz q (by omega)
  refine r_iconst (v := nI 0) dX8_marksPath_0 (by decide) ?_
  refine r_istore_n dX8_marksPath_1 (by decide) ?_
  simp only [mst1, mclr]
  exact loop 24 0 M A (by omega) h (fun _ _ => rfl) (fun q hq => absurd hq (Nat.not_lt_zero q))
theorem m_sumOf (h : MAt B M m F D A) {W : WT} (hw : wOk W) (hR : mR W (A 1)) (on : Nat → Bool) (ho : ∀ k, k < 24 → A 13 k = if on k = true then 1 else 0) (b : Bool) (hq : Q (.inl (some (.int (nI (if b = true then oWo W on else oLen W on))))) M t u) : mMet G (d + 1) zX8_sumOf [.ref m, .int (bI b)] M t u Q := by
  refine m_intro (by decide +kernel) ⟨Nat.le_of_ble_eq_true rfl, Nat.le_of_ble_eq_true rfl⟩ ?_
  show mW G _ _ 0 [some (.ref m), some (.int (bI b)), none, none, none] [] _ _ _ _
  obtain ⟨⟨e0, hm'⟩, ⟨e1, hn'⟩, ⟨e2, hcg⟩, e3, e4, e5⟩ := mR_up hw hR
  have loop : ∀ n k v4, k + n = wn W → mW G zX8_sumOf (d + 1) 4 [some (.ref m), some (.int (bI b)), some (.int (nI (sF (fun k => if on k = true then (if b = true then wWo W k else 1) else 0) k))), some (.int (nI k)), v4] [] M t u Q := by
    intro n
    induction n with
    | zero =>
      intro k v4 hk
      have hk : k = wn W := by omega
      subst hk
      refine r_iload_n dX8_sumOf_4 rfl ?_
      first | refine r_aload_n dX8_sumOf_5 rfl ?_ | refine r_aload_nq dX8_sumOf_5 rfl ?_ | refine r_aload_nN dX8_sumOf_5 rfl ?_
      refine r_getf f_X8_9_7 (by first | exact MAt.o (by assumption) | exact MAt.a1 (by assumption) | exact MAt.a2 (by assumption) | exact MAt.a3 (by assumption) | exact MAt.a4 (by assumption) | exact MAt.a5 (by assumption) | exact MAt.a6 (by assumption) | exact MAt.a7 (by assumption) | exact MAt.a8 (by assumption) | exact MAt.a9 (by assumption) | exact MAt.a10 (by assumption) | exact MAt.a11 (by assumption) | exact MAt.a12 (by assumption) | exact MAt.a13 (by assumption) | exact MAt.a14 (by assumption) | exact MAt.a15 (by assumption) | exact MAt.a16 (by assumption)) (by rfl) dX8_sumOf_6 ?_
      refine r_iconst (v := nI 1) dX8_sumOf_9 (by decide) ?_
      refine r_iald_n (by first | exact MAt.o (by assumption) | exact MAt.a1 (by assumption) | exact MAt.a2 (by assumption) | exact MAt.a3 (by assumption) | exact MAt.a4 (by assumption) | exact MAt.a5 (by assumption) | exact MAt.a6 (by assumption) | exact MAt.a7 (by assumption) | exact MAt.a8 (by assumption) | exact MAt.a9 (by assumption) | exact MAt.a10 (by assumption) | exact MAt.a11 (by assumption) | exact MAt.a12 (by assumption) | exact MAt.a13 (by assumption) | exact MAt.a14 (by assumption) | exact MAt.a15 (by assumption) | exact MAt.a16 (by assumption)) (by rfl) (by omega) (by omega) dX8_sumOf_10 ?_
      first | refine r_icmp_ge_n (tgt := 74) dX8_sumOf_11 (by decide) (by omega) (by omega) (fun h11 => ?_) (fun h11 => by exfalso; omega) | refine r_icmp_ge (tgt := 74) dX8_sumOf_11 (by decide) (fun h11 => ?_) (fun h11 => by exfalso; omega)
      refine r_iload_n dX8_sumOf_74 rfl ?_
      refine r_iret rfl (by first | rfl | exact bI_nar _) dX8_sumOf_75 ?_
      have e : sF (fun k => if on k = true then (if b = true then wWo W k else 1) else 0) (wn W) = if b = true then oWo W on else oLen W on := by
        cases b <;> rfl
      rw [e]; exact hq
    | succ n ih =>
      intro k v4 hk
      obtain ⟨s1, s2, s3, c1, c2, c3, c4, c5, c6⟩ := e5 k (by omega)
      have hok := ho k (by omega)
      have fin : ∀ x, x = (if b = true then wWo W k else 1) → mW G zX8_sumOf (d + 1) 48 [some (.ref m), some (.int (bI b)), some (.int (nI (sF (fun k => if on k = true then (if b = true then wWo W k else 1) else 0) k))), some (.int (nI k)), v4] [.int (nI x)] M t u Q := by
        intro x hx
        have nx : mW G zX8_sumOf (d + 1) 66 [some (.ref m), some (.int (bI b)), some (.int (nI (sF (fun k => if on k = true then (if b = true then wWo W k else 1) else 0) k))), some (.int (nI k)), some (.int (nI x))] [.int (nI (if on k = true then x else 0)), .int (nI (sF (fun k => if on k = true then (if b = true then wWo W k else 1) else 0) k))] M t u Q := by
          first | refine r_iadd_n dX8_sumOf_66 ?_ | refine r_iadd dX8_sumOf_66 ?_
          refine r_istore_n dX8_sumOf_67 (by decide) ?_
          simp only [mst1, mclr]
          first | refine r_iinc_n 1 dX8_sumOf_68 rfl (by decide) ?_ | refine r_iinc dX8_sumOf_68 rfl rfl (by decide) ?_
          simp only [mst1, mclr]
          refine r_goto (tgt := 4) dX8_sumOf_71 (by decide) ?_
          rw [hx]
          exact ih (k + 1) _ (by omega)
        cases hon : on k with
        | false =>
          rw [hon] at nx hok
          have hok : A 13 k = 0 := hok
          refine r_istore dX8_sumOf_48 (by decide) ?_
          simp only [mst1, mclr]
          refine r_iload_n dX8_sumOf_50 rfl ?_
          first | refine r_aload_n dX8_sumOf_51 rfl ?_ | refine r_aload_nq dX8_sumOf_51 rfl ?_ | refine r_aload_nN dX8_sumOf_51 rfl ?_
          refine r_getf f_X8_46_7 (by first | exact MAt.o (by assumption) | exact MAt.a1 (by assumption) | exact MAt.a2 (by assumption) | exact MAt.a3 (by assumption) | exact MAt.a4 (by assumption) | exact MAt.a5 (by assumption) | exact MAt.a6 (by assumption) | exact MAt.a7 (by assumption) | exact MAt.a8 (by assumption) | exact MAt.a9 (by assumption) | exact MAt.a10 (by assumption) | exact MAt.a11 (by assumption) | exact MAt.a12 (by assumption) | exact MAt.a13 (by assumption) | exact MAt.a14 (by assumption) | exact MAt.a15 (by assumption) | exact MAt.a16 (by assumption)) (by rfl) dX8_sumOf_52 ?_
          refine r_iload_n dX8_sumOf_55 rfl ?_
          first | refine r_zald_n (by first | exact MAt.o (by assumption) | exact MAt.a1 (by assumption) | exact MAt.a2 (by assumption) | exact MAt.a3 (by assumption) | exact MAt.a4 (by assumption) | exact MAt.a5 (by assumption) | exact MAt.a6 (by assumption) | exact MAt.a7 (by assumption) | exact MAt.a8 (by assumption) | exact MAt.a9 (by assumption) | exact MAt.a10 (by assumption) | exact MAt.a11 (by assumption) | exact MAt.a12 (by assumption) | exact MAt.a13 (by assumption) | exact MAt.a14 (by assumption) | exact MAt.a15 (by assumption) | exact MAt.a16 (by assumption)) (by rfl) (by omega) (by omega) dX8_sumOf_56 ?_ | refine r_bald_n (by first | exact MAt.o (by assumption) | exact MAt.a1 (by assumption) | exact MAt.a2 (by assumption) | exact MAt.a3 (by assumption) | exact MAt.a4 (by assumption) | exact MAt.a5 (by assumption) | exact MAt.a6 (by assumption) | exact MAt.a7 (by assumption) | exact MAt.a8 (by assumption) | exact MAt.a9 (by assumption) | exact MAt.a10 (by assumption) | exact MAt.a11 (by assumption) | exact MAt.a12 (by assumption) | exact MAt.a13 (by assumption) | exact MAt.a14 (by assumption) | exact MAt.a15 (by assumption) | exact MAt.a16 (by assumption)) (by rfl) (by omega) (by omega) dX8_sumOf_56 ?_
          refine r_if_eq_n (tgt := 65) dX8_sumOf_57 (by decide) (by omega) (fun h57 => ?_) (fun h57 => by exfalso; omega)
          refine r_iconst (v := nI 0) dX8_sumOf_65 (by decide) ?_
          exact nx
        | true =>
          rw [hon] at nx hok
          have hok : A 13 k = 1 := hok
          refine r_istore dX8_sumOf_48 (by decide) ?_
          simp only [mst1, mclr]
          refine r_iload_n dX8_sumOf_50 rfl ?_
          first | refine r_aload_n dX8_sumOf_51 rfl ?_ | refine r_aload_nq dX8_sumOf_51 rfl ?_ | refine r_aload_nN dX8_sumOf_51 rfl ?_
          refine r_getf f_X8_46_7 (by first | exact MAt.o (by assumption) | exact MAt.a1 (by assumption) | exact MAt.a2 (by assumption) | exact MAt.a3 (by assumption) | exact MAt.a4 (by assumption) | exact MAt.a5 (by assumption) | exact MAt.a6 (by assumption) | exact MAt.a7 (by assumption) | exact MAt.a8 (by assumption) | exact MAt.a9 (by assumption) | exact MAt.a10 (by assumption) | exact MAt.a11 (by assumption) | exact MAt.a12 (by assumption) | exact MAt.a13 (by assumption) | exact MAt.a14 (by assumption) | exact MAt.a15 (by assumption) | exact MAt.a16 (by assumption)) (by rfl) dX8_sumOf_52 ?_
          refine r_iload_n dX8_sumOf_55 rfl ?_
          first | refine r_zald_n (by first | exact MAt.o (by assumption) | exact MAt.a1 (by assumption) | exact MAt.a2 (by assumption) | exact MAt.a3 (by assumption) | exact MAt.a4 (by assumption) | exact MAt.a5 (by assumption) | exact MAt.a6 (by assumption) | exact MAt.a7 (by assumption) | exact MAt.a8 (by assumption) | exact MAt.a9 (by assumption) | exact MAt.a10 (by assumption) | exact MAt.a11 (by assumption) | exact MAt.a12 (by assumption) | exact MAt.a13 (by assumption) | exact MAt.a14 (by assumption) | exact MAt.a15 (by assumption) | exact MAt.a16 (by assumption)) (by rfl) (by omega) (by omega) dX8_sumOf_56 ?_ | refine r_bald_n (by first | exact MAt.o (by assumption) | exact MAt.a1 (by assumption) | exact MAt.a2 (by assumption) | exact MAt.a3 (by assumption) | exact MAt.a4 (by assumption) | exact MAt.a5 (by assumption) | exact MAt.a6 (by assumption) | exact MAt.a7 (by assumption) | exact MAt.a8 (by assumption) | exact MAt.a9 (by assumption) | exact MAt.a10 (by assumption) | exact MAt.a11 (by assumption) | exact MAt.a12 (by assumption) | exact MAt.a13 (by assumption) | exact MAt.a14 (by assumption) | exact MAt.a15 (by assumption) | exact MAt.a16 (by assumption)) (by rfl) (by omega) (by omega) dX8_sumOf_56 ?_
          refine r_if_eq_n (tgt := 65) dX8_sumOf_57 (by decide) (by omega) (fun h57 => by exfalso; omega) (fun h57 => ?_)
          refine r_iload dX8_sumOf_60 rfl ?_
          refine r_goto (tgt := 66) dX8_sumOf_62 (by decide) ?_
          exact nx
      cases b with
      | false =>
        refine r_iload_n dX8_sumOf_4 rfl ?_
        first | refine r_aload_n dX8_sumOf_5 rfl ?_ | refine r_aload_nq dX8_sumOf_5 rfl ?_ | refine r_aload_nN dX8_sumOf_5 rfl ?_
        refine r_getf f_X8_9_7 (by first | exact MAt.o (by assumption) | exact MAt.a1 (by assumption) | exact MAt.a2 (by assumption) | exact MAt.a3 (by assumption) | exact MAt.a4 (by assumption) | exact MAt.a5 (by assumption) | exact MAt.a6 (by assumption) | exact MAt.a7 (by assumption) | exact MAt.a8 (by assumption) | exact MAt.a9 (by assumption) | exact MAt.a10 (by assumption) | exact MAt.a11 (by assumption) | exact MAt.a12 (by assumption) | exact MAt.a13 (by assumption) | exact MAt.a14 (by assumption) | exact MAt.a15 (by assumption) | exact MAt.a16 (by assumption)) (by rfl) dX8_sumOf_6 ?_
        refine r_iconst (v := nI 1) dX8_sumOf_9 (by decide) ?_
        refine r_iald_n (by first | exact MAt.o (by assumption) | exact MAt.a1 (by assumption) | exact MAt.a2 (by assumption) | exact MAt.a3 (by assumption) | exact MAt.a4 (by assumption) | exact MAt.a5 (by assumption) | exact MAt.a6 (by assumption) | exact MAt.a7 (by assumption) | exact MAt.a8 (by assumption) | exact MAt.a9 (by assumption) | exact MAt.a10 (by assumption) | exact MAt.a11 (by assumption) | exact MAt.a12 (by assumption) | exact MAt.a13 (by assumption) | exact MAt.a14 (by assumption) | exact MAt.a15 (by assumption) | exact MAt.a16 (by assumption)) (by rfl) (by omega) (by omega) dX8_sumOf_10 ?_
        first | refine r_icmp_ge_n (tgt := 74) dX8_sumOf_11 (by decide) (by omega) (by omega) (fun h11 => by exfalso; omega) (fun h11 => ?_) | refine r_icmp_ge (tgt := 74) dX8_sumOf_11 (by decide) (fun h11 => by exfalso; omega) (fun h11 => ?_)
        refine r_iload_n dX8_sumOf_14 rfl ?_
        refine r_if_ne_b (tgt := 22) dX8_sumOf_15 (by decide) (fun h15 => absurd h15 (by decide)) (fun h15 => ?_)
        refine r_iconst (v := nI 1) dX8_sumOf_18 (by decide) ?_
        refine r_goto (tgt := 48) dX8_sumOf_19 (by decide) ?_
        exact fin 1 rfl
      | true =>
        refine r_iload_n dX8_sumOf_4 rfl ?_
        first | refine r_aload_n dX8_sumOf_5 rfl ?_ | refine r_aload_nq dX8_sumOf_5 rfl ?_ | refine r_aload_nN dX8_sumOf_5 rfl ?_
        refine r_getf f_X8_9_7 (by first | exact MAt.o (by assumption) | exact MAt.a1 (by assumption) | exact MAt.a2 (by assumption) | exact MAt.a3 (by assumption) | exact MAt.a4 (by assumption) | exact MAt.a5 (by assumption) | exact MAt.a6 (by assumption) | exact MAt.a7 (by assumption) | exact MAt.a8 (by assumption) | exact MAt.a9 (by assumption) | exact MAt.a10 (by assumption) | exact MAt.a11 (by assumption) | exact MAt.a12 (by assumption) | exact MAt.a13 (by assumption) | exact MAt.a14 (by assumption) | exact MAt.a15 (by assumption) | exact MAt.a16 (by assumption)) (by rfl) dX8_sumOf_6 ?_
        refine r_iconst (v := nI 1) dX8_sumOf_9 (by decide) ?_
        refine r_iald_n (by first | exact MAt.o (by assumption) | exact MAt.a1 (by assumption) | exact MAt.a2 (by assumption) | exact MAt.a3 (by assumption) | exact MAt.a4 (by assumption) | exact MAt.a5 (by assumption) | exact MAt.a6 (by assumption) | exact MAt.a7 (by assumption) | exact MAt.a8 (by assumption) | exact MAt.a9 (by assumption) | exact MAt.a10 (by assumption) | exact MAt.a11 (by assumption) | exact MAt.a12 (by assumption) | exact MAt.a13 (by assumption) | exact MAt.a14 (by assumption) | exact MAt.a15 (by assumption) | exact MAt.a16 (by assumption)) (by rfl) (by omega) (by omega) dX8_sumOf_10 ?_
        first | refine r_icmp_ge_n (tgt := 74) dX8_sumOf_11 (by decide) (by omega) (by omega) (fun h11 => by exfalso; omega) (fun h11 => ?_) | refine r_icmp_ge (tgt := 74) dX8_sumOf_11 (by decide) (fun h11 => by exfalso; omega) (fun h11 => ?_)
        refine r_iload_n dX8_sumOf_14 rfl ?_
        refine r_if_ne_b (tgt := 22) dX8_sumOf_15 (by decide) (fun h15 => ?_) (fun h15 => absurd h15 (by decide))
        first | refine r_aload_n dX8_sumOf_22 rfl ?_ | refine r_aload_nq dX8_sumOf_22 rfl ?_ | refine r_aload_nN dX8_sumOf_22 rfl ?_
        refine r_iload_n dX8_sumOf_23 rfl ?_
        refine r_callV s_X8_110_v dX8_sumOf_24 (by first | exact MAt.o (by assumption) | exact MAt.a1 (by assumption) | exact MAt.a2 (by assumption) | exact MAt.a3 (by assumption) | exact MAt.a4 (by assumption) | exact MAt.a5 (by assumption) | exact MAt.a6 (by assumption) | exact MAt.a7 (by assumption) | exact MAt.a8 (by assumption) | exact MAt.a9 (by assumption) | exact MAt.a10 (by assumption) | exact MAt.a11 (by assumption) | exact MAt.a12 (by assumption) | exact MAt.a13 (by assumption) | exact MAt.a14 (by assumption) | exact MAt.a15 (by assumption) | exact MAt.a16 (by assumption)) (by rfl) rfl (Nat.le_of_ble_eq_true rfl) (m_sort h k (by omega) ?_)
        refine mK_r ?_
        refine r_iconst (v := nI 3) dX8_sumOf_27 (by decide) ?_
        first | refine r_icmp_ne_n (tgt := 47) dX8_sumOf_28 (by decide) (by omega) (by omega) (fun h28 => ?_) (fun h28 => ?_) | refine r_icmp_ne_pn (tgt := 47) dX8_sumOf_28 (by decide) (by omega) (by omega) (fun h28 => ?_) (fun h28 => ?_) | refine r_icmp_ne_pm (tgt := 47) dX8_sumOf_28 (by decide) (by omega) (fun h28 => ?_) (fun h28 => ?_) | refine r_icmp_ne (tgt := 47) dX8_sumOf_28 (by decide) (fun h28 => ?_) (fun h28 => ?_)
        · refine r_iconst (v := nI 0) dX8_sumOf_47 (by decide) ?_
          exact fin 0 (by show 0 = wWo W k; unfold wWo; rw [if_neg (by omega)])
        · have c3' : won W k < wm W := c3 (by omega)
          have e4' := e4 (won W k) c3'
          first | refine r_aload_n dX8_sumOf_31 rfl ?_ | refine r_aload_nq dX8_sumOf_31 rfl ?_ | refine r_aload_nN dX8_sumOf_31 rfl ?_
          refine r_getf f_X8_9_7 (by first | exact MAt.o (by assumption) | exact MAt.a1 (by assumption) | exact MAt.a2 (by assumption) | exact MAt.a3 (by assumption) | exact MAt.a4 (by assumption) | exact MAt.a5 (by assumption) | exact MAt.a6 (by assumption) | exact MAt.a7 (by assumption) | exact MAt.a8 (by assumption) | exact MAt.a9 (by assumption) | exact MAt.a10 (by assumption) | exact MAt.a11 (by assumption) | exact MAt.a12 (by assumption) | exact MAt.a13 (by assumption) | exact MAt.a14 (by assumption) | exact MAt.a15 (by assumption) | exact MAt.a16 (by assumption)) (by rfl) dX8_sumOf_32 ?_
          refine r_bipush (v := nI 29) dX8_sumOf_35 (by decide) ?_
          first | refine r_aload_n dX8_sumOf_37 rfl ?_ | refine r_aload_nq dX8_sumOf_37 rfl ?_ | refine r_aload_nN dX8_sumOf_37 rfl ?_
          refine r_iload_n dX8_sumOf_38 rfl ?_
          refine r_callV s_X8_133_v dX8_sumOf_39 (by first | exact MAt.o (by assumption) | exact MAt.a1 (by assumption) | exact MAt.a2 (by assumption) | exact MAt.a3 (by assumption) | exact MAt.a4 (by assumption) | exact MAt.a5 (by assumption) | exact MAt.a6 (by assumption) | exact MAt.a7 (by assumption) | exact MAt.a8 (by assumption) | exact MAt.a9 (by assumption) | exact MAt.a10 (by assumption) | exact MAt.a11 (by assumption) | exact MAt.a12 (by assumption) | exact MAt.a13 (by assumption) | exact MAt.a14 (by assumption) | exact MAt.a15 (by assumption) | exact MAt.a16 (by assumption)) (by rfl) rfl (Nat.le_of_ble_eq_true rfl) (m_one h k (by omega) ?_)
          refine mK_r ?_
          rw [s2]
          first | refine r_iadd_n dX8_sumOf_42 ?_ | refine r_iadd dX8_sumOf_42 ?_
          refine r_iald_n (by first | exact MAt.o (by assumption) | exact MAt.a1 (by assumption) | exact MAt.a2 (by assumption) | exact MAt.a3 (by assumption) | exact MAt.a4 (by assumption) | exact MAt.a5 (by assumption) | exact MAt.a6 (by assumption) | exact MAt.a7 (by assumption) | exact MAt.a8 (by assumption) | exact MAt.a9 (by assumption) | exact MAt.a10 (by assumption) | exact MAt.a11 (by assumption) | exact MAt.a12 (by assumption) | exact MAt.a13 (by assumption) | exact MAt.a14 (by assumption) | exact MAt.a15 (by assumption) | exact MAt.a16 (by assumption)) (by rfl) (by omega) (by omega) dX8_sumOf_43 ?_
          refine r_goto (tgt := 48) dX8_sumOf_44 (by decide) ?_
          exact fin _ (by show _ = wWo W k; unfold wWo; rw [if_pos (by omega)]; exact e4'.2.2.1)
  refine r_iconst (v := nI 0) dX8_sumOf_0 (by decide) ?_
  refine r_istore_n dX8_sumOf_1 (by decide) ?_
  simp only [mst1, mclr]
  refine r_iconst (v := nI 0) dX8_sumOf_2 (by decide) ?_
  refine r_istore_n dX8_sumOf_3 (by decide) ?_
  simp only [mst1, mclr]
  exact loop (wn W) 0 _ (by omega)
theorem m_tithesOf (h : MAt B M m F D A) (hb : mGb G ≤ m) {W : WT} (hw : wOk W) (hR : mR W (A 1)) (hm : nestB (wso W) (wn W) = true) (hme : me (A 8) (A 9) 0 (pT (wso W) (wn W))) (n : Nat) (hn : n < pN (wso W) (wn W))
   (hq : ∀ M F' A', MAt B M m F' D A' → (∀ i, i ≠ 23 → i ≠ 24 → F' i = F i) → (∀ i, i ≠ 13 → A' i = A i) → Q (.inl (some (.float (pTi W n)))) M t u) : mMet G (d + 21) zX8_tithesOf [.ref m, .int (nI n)] M t u Q := by
  refine m_intro (by decide +kernel) ⟨Nat.le_of_ble_eq_true rfl, Nat.le_of_ble_eq_true rfl⟩ ?_
  show mW G _ _ 0 [some (.ref m), some (.int (nI n)), none, none] [] _ _ _ _
  obtain ⟨⟨e0, hm'⟩, ⟨e1, hn'⟩, ⟨e2, hcg⟩, e3, e4, e5⟩ := mR_up hw hR
  first | refine r_aload_n dX8_tithesOf_0 rfl ?_ | refine r_aload_nq dX8_tithesOf_0 rfl ?_ | refine r_aload_nN dX8_tithesOf_0 rfl ?_
  refine r_iload_n dX8_tithesOf_1 rfl ?_
  refine r_callV s_X8_249_v dX8_tithesOf_2 (by first | exact MAt.o (by assumption) | exact MAt.a1 (by assumption) | exact MAt.a2 (by assumption) | exact MAt.a3 (by assumption) | exact MAt.a4 (by assumption) | exact MAt.a5 (by assumption) | exact MAt.a6 (by assumption) | exact MAt.a7 (by assumption) | exact MAt.a8 (by assumption) | exact MAt.a9 (by assumption) | exact MAt.a10 (by assumption) | exact MAt.a11 (by assumption) | exact MAt.a12 (by assumption) | exact MAt.a13 (by assumption) | exact MAt.a14 (by assumption) | exact MAt.a15 (by assumption) | exact MAt.a16 (by assumption)) (by rfl) rfl (Nat.le_of_ble_eq_true rfl) (m_marksPath h hb hw hR hm hme n hn (fun M F' A' hM a1 a2 a3 a4 => ?_))
  refine mK_v ?_
  refine r_fconst0 dX8_tithesOf_5 ?_
  refine r_fstore_n dX8_tithesOf_6 (by decide) ?_
  simp only [mst1, mclr]
  refine r_iconst (v := nI 0) dX8_tithesOf_7 (by decide) ?_
  refine r_istore_n dX8_tithesOf_8 (by decide) ?_
  simp only [mst1, mclr]
  have q1 : A' 1 = A 1 := a2 1 (by decide)
  have q11 : A' 1 1 = wn W := by rw [q1]; exact e1
  have hR' : mR W (A' 1) := by rw [q1]; exact hR
  have loop : ∀ n' k, k + n' = wn W → mW G zX8_tithesOf (d + 21) 9 [some (.ref m), some (.int (nI n)), some (.float (oTi W (pOn W n) k)), some (.int (nI k))] [] M t u Q := by
    intro n'
    induction n' with
    | zero =>
      intro k hk
      have hk : k = wn W := by omega
      subst hk
      refine r_iload_n dX8_tithesOf_9 rfl ?_
      first | refine r_aload_n dX8_tithesOf_10 rfl ?_ | refine r_aload_nq dX8_tithesOf_10 rfl ?_ | refine r_aload_nN dX8_tithesOf_10 rfl ?_
      refine r_getf f_X8_9_7 (by first | exact MAt.o (by assumption) | exact MAt.a1 (by assumption) | exact MAt.a2 (by assumption) | exact MAt.a3 (by assumption) | exact MAt.a4 (by assumption) | exact MAt.a5 (by assumption) | exact MAt.a6 (by assumption) | exact MAt.a7 (by assumption) | exact MAt.a8 (by assumption) | exact MAt.a9 (by assumption) | exact MAt.a10 (by assumption) | exact MAt.a11 (by assumption) | exact MAt.a12 (by assumption) | exact MAt.a13 (by assumption) | exact MAt.a14 (by assumption) | exact MAt.a15 (by assumption) | exact MAt.a16 (by assumption)) (by rfl) dX8_tithesOf_11 ?_
      refine r_iconst (v := nI 1) dX8_tithesOf_14 (by decide) ?_
      refine r_iald_n (by first | exact MAt.o (by assumption) | exact MAt.a1 (by assumption) | exact MAt.a2 (by assumption) | exact MAt.a3 (by assumption) | exact MAt.a4 (by assumption) | exact MAt.a5 (by assumption) | exact MAt.a6 (by assumption) | exact MAt.a7 (by assumption) | exact MAt.a8 (by assumption) | exact MAt.a9 (by assumption) | exact MAt.a10 (by assumption) | exact MAt.a11 (by assumption) | exact MAt.a12 (by assumption) | exact MAt.a13 (by assumption) | exact MAt.a14 (by assumption) | exact MAt.a15 (by assumption) | exact MAt.a16 (by assumption)) (by rfl) (by omega) (by omega) dX8_tithesOf_15 ?_
      first | refine r_icmp_ge_n (tgt := 55) dX8_tithesOf_16 (by decide) (by omega) (by omega) (fun h16 => ?_) (fun h16 => by exfalso; omega) | refine r_icmp_ge (tgt := 55) dX8_tithesOf_16 (by decide) (fun h16 => ?_) (fun h16 => by exfalso; omega)
      refine r_fload_n dX8_tithesOf_55 rfl ?_
      refine r_fret rfl dX8_tithesOf_56 ?_
      exact hq _ _ _ hM a1 a2
    | succ n' ih =>
      intro k hk
      obtain ⟨s1, s2, s3, c1, c2, c3, c4, c5, c6⟩ := e5 k (by omega)
      have s1' : A' 1 (37 + 3 * k) = wso W k := by rw [q1]; exact s1
      have s2' : A' 1 (38 + 3 * k) = won W k := by rw [q1]; exact s2
      have hok := a4 k (by omega)
      have nx := ih (k + 1) (by omega)
      have no : ¬ (pOn W n k = true ∧ wso W k = 3) → mW G zX8_tithesOf (d + 21) 49 [some (.ref m), some (.int (nI n)), some (.float (oTi W (pOn W n) k)), some (.int (nI k))] [] M t u Q := by
        intro hh
        first | refine r_iinc_n 1 dX8_tithesOf_49 rfl (by decide) ?_ | refine r_iinc dX8_tithesOf_49 rfl rfl (by decide) ?_
        simp only [mst1, mclr]
        refine r_goto (tgt := 9) dX8_tithesOf_52 (by decide) ?_
        have e : oTi W (pOn W n) (k + 1) = oTi W (pOn W n) k := by show (if _ then _ else _) = _; rw [if_neg hh]
        rw [e] at nx; exact nx
      cases hon : pOn W n k with
      | false =>
        rw [hon] at hok
        have hok : A' 13 k = 0 := hok
        refine r_iload_n dX8_tithesOf_9 rfl ?_
        first | refine r_aload_n dX8_tithesOf_10 rfl ?_ | refine r_aload_nq dX8_tithesOf_10 rfl ?_ | refine r_aload_nN dX8_tithesOf_10 rfl ?_
        refine r_getf f_X8_9_7 (by first | exact MAt.o (by assumption) | exact MAt.a1 (by assumption) | exact MAt.a2 (by assumption) | exact MAt.a3 (by assumption) | exact MAt.a4 (by assumption) | exact MAt.a5 (by assumption) | exact MAt.a6 (by assumption) | exact MAt.a7 (by assumption) | exact MAt.a8 (by assumption) | exact MAt.a9 (by assumption) | exact MAt.a10 (by assumption) | exact MAt.a11 (by assumption) | exact MAt.a12 (by assumption) | exact MAt.a13 (by assumption) | exact MAt.a14 (by assumption) | exact MAt.a15 (by assumption) | exact MAt.a16 (by assumption)) (by rfl) dX8_tithesOf_11 ?_
        refine r_iconst (v := nI 1) dX8_tithesOf_14 (by decide) ?_
        refine r_iald_n (by first | exact MAt.o (by assumption) | exact MAt.a1 (by assumption) | exact MAt.a2 (by assumption) | exact MAt.a3 (by assumption) | exact MAt.a4 (by assumption) | exact MAt.a5 (by assumption) | exact MAt.a6 (by assumption) | exact MAt.a7 (by assumption) | exact MAt.a8 (by assumption) | exact MAt.a9 (by assumption) | exact MAt.a10 (by assumption) | exact MAt.a11 (by assumption) | exact MAt.a12 (by assumption) | exact MAt.a13 (by assumption) | exact MAt.a14 (by assumption) | exact MAt.a15 (by assumption) | exact MAt.a16 (by assumption)) (by rfl) (by omega) (by omega) dX8_tithesOf_15 ?_
        first | refine r_icmp_ge_n (tgt := 55) dX8_tithesOf_16 (by decide) (by omega) (by omega) (fun h16 => by exfalso; omega) (fun h16 => ?_) | refine r_icmp_ge (tgt := 55) dX8_tithesOf_16 (by decide) (fun h16 => by exfalso; omega) (fun h16 => ?_)
        first | refine r_aload_n dX8_tithesOf_19 rfl ?_ | refine r_aload_nq dX8_tithesOf_19 rfl ?_ | refine r_aload_nN dX8_tithesOf_19 rfl ?_
        refine r_getf f_X8_46_7 (by first | exact MAt.o (by assumption) | exact MAt.a1 (by assumption) | exact MAt.a2 (by assumption) | exact MAt.a3 (by assumption) | exact MAt.a4 (by assumption) | exact MAt.a5 (by assumption) | exact MAt.a6 (by assumption) | exact MAt.a7 (by assumption) | exact MAt.a8 (by assumption) | exact MAt.a9 (by assumption) | exact MAt.a10 (by assumption) | exact MAt.a11 (by assumption) | exact MAt.a12 (by assumption) | exact MAt.a13 (by assumption) | exact MAt.a14 (by assumption) | exact MAt.a15 (by assumption) | exact MAt.a16 (by assumption)) (by rfl) dX8_tithesOf_20 ?_
        refine r_iload_n dX8_tithesOf_23 rfl ?_
        first | refine r_zald_n (by first | exact MAt.o (by assumption) | exact MAt.a1 (by assumption) | exact MAt.a2 (by assumption) | exact MAt.a3 (by assumption) | exact MAt.a4 (by assumption) | exact MAt.a5 (by assumption) | exact MAt.a6 (by assumption) | exact MAt.a7 (by assumption) | exact MAt.a8 (by assumption) | exact MAt.a9 (by assumption) | exact MAt.a10 (by assumption) | exact MAt.a11 (by assumption) | exact MAt.a12 (by assumption) | exact MAt.a13 (by assumption) | exact MAt.a14 (by assumption) | exact MAt.a15 (by assumption) | exact MAt.a16 (by assumption)) (by rfl) (by omega) (by omega) dX8_tithesOf_24 ?_ | refine r_bald_n (by first | exact MAt.o (by assumption) | exact MAt.a1 (by assumption) | exact MAt.a2 (by assumption) | exact MAt.a3 (by assumption) | exact MAt.a4 (by assumption) | exact MAt.a5 (by assumption) | exact MAt.a6 (by assumption) | exact MAt.a7 (by assumption) | exact MAt.a8 (by assumption) | exact MAt.a9 (by assumption) | exact MAt.a10 (by assumption) | exact MAt.a11 (by assumption) | exact MAt.a12 (by assumption) | exact MAt.a13 (by assumption) | exact MAt.a14 (by assumption) | exact MAt.a15 (by assumption) | exact MAt.a16 (by assumption)) (by rfl) (by omega) (by omega) dX8_tithesOf_24 ?_
        refine r_if_eq_n (tgt := 49) dX8_tithesOf_25 (by decide) (by omega) (fun h25 => ?_) (fun h25 => by exfalso; omega)
        exact no (fun hh => by rw [hon] at hh; cases hh.1)
      | true =>
        rw [hon] at hok
        have hok : A' 13 k = 1 := hok
        refine r_iload_n dX8_tithesOf_9 rfl ?_
        first | refine r_aload_n dX8_tithesOf_10 rfl ?_ | refine r_aload_nq dX8_tithesOf_10 rfl ?_ | refine r_aload_nN dX8_tithesOf_10 rfl ?_
        refine r_getf f_X8_9_7 (by first | exact MAt.o (by assumption) | exact MAt.a1 (by assumption) | exact MAt.a2 (by assumption) | exact MAt.a3 (by assumption) | exact MAt.a4 (by assumption) | exact MAt.a5 (by assumption) | exact MAt.a6 (by assumption) | exact MAt.a7 (by assumption) | exact MAt.a8 (by assumption) | exact MAt.a9 (by assumption) | exact MAt.a10 (by assumption) | exact MAt.a11 (by assumption) | exact MAt.a12 (by assumption) | exact MAt.a13 (by assumption) | exact MAt.a14 (by assumption) | exact MAt.a15 (by assumption) | exact MAt.a16 (by assumption)) (by rfl) dX8_tithesOf_11 ?_
        refine r_iconst (v := nI 1) dX8_tithesOf_14 (by decide) ?_
        refine r_iald_n (by first | exact MAt.o (by assumption) | exact MAt.a1 (by assumption) | exact MAt.a2 (by assumption) | exact MAt.a3 (by assumption) | exact MAt.a4 (by assumption) | exact MAt.a5 (by assumption) | exact MAt.a6 (by assumption) | exact MAt.a7 (by assumption) | exact MAt.a8 (by assumption) | exact MAt.a9 (by assumption) | exact MAt.a10 (by assumption) | exact MAt.a11 (by assumption) | exact MAt.a12 (by assumption) | exact MAt.a13 (by assumption) | exact MAt.a14 (by assumption) | exact MAt.a15 (by assumption) | exact MAt.a16 (by assumption)) (by rfl) (by omega) (by omega) dX8_tithesOf_15 ?_
        first | refine r_icmp_ge_n (tgt := 55) dX8_tithesOf_16 (by decide) (by omega) (by omega) (fun h16 => by exfalso; omega) (fun h16 => ?_) | refine r_icmp_ge (tgt := 55) dX8_tithesOf_16 (by decide) (fun h16 => by exfalso; omega) (fun h16 => ?_)
        first | refine r_aload_n dX8_tithesOf_19 rfl ?_ | refine r_aload_nq dX8_tithesOf_19 rfl ?_ | refine r_aload_nN dX8_tithesOf_19 rfl ?_
        refine r_getf f_X8_46_7 (by first | exact MAt.o (by assumption) | exact MAt.a1 (by assumption) | exact MAt.a2 (by assumption) | exact MAt.a3 (by assumption) | exact MAt.a4 (by assumption) | exact MAt.a5 (by assumption) | exact MAt.a6 (by assumption) | exact MAt.a7 (by assumption) | exact MAt.a8 (by assumption) | exact MAt.a9 (by assumption) | exact MAt.a10 (by assumption) | exact MAt.a11 (by assumption) | exact MAt.a12 (by assumption) | exact MAt.a13 (by assumption) | exact MAt.a14 (by assumption) | exact MAt.a15 (by assumption) | exact MAt.a16 (by assumption)) (by rfl) dX8_tithesOf_20 ?_
        refine r_iload_n dX8_tithesOf_23 rfl ?_
        first | refine r_zald_n (by first | exact MAt.o (by assumption) | exact MAt.a1 (by assumption) | exact MAt.a2 (by assumption) | exact MAt.a3 (by assumption) | exact MAt.a4 (by assumption) | exact MAt.a5 (by assumption) | exact MAt.a6 (by assumption) | exact MAt.a7 (by assumption) | exact MAt.a8 (by assumption) | exact MAt.a9 (by assumption) | exact MAt.a10 (by assumption) | exact MAt.a11 (by assumption) | exact MAt.a12 (by assumption) | exact MAt.a13 (by assumption) | exact MAt.a14 (by assumption) | exact MAt.a15 (by assumption) | exact MAt.a16 (by assumption)) (by rfl) (by omega) (by omega) dX8_tithesOf_24 ?_ | refine r_bald_n (by first | exact MAt.o (by assumption) | exact MAt.a1 (by assumption) | exact MAt.a2 (by assumption) | exact MAt.a3 (by assumption) | exact MAt.a4 (by assumption) | exact MAt.a5 (by assumption) | exact MAt.a6 (by assumption) | exact MAt.a7 (by assumption) | exact MAt.a8 (by assumption) | exact MAt.a9 (by assumption) | exact MAt.a10 (by assumption) | exact MAt.a11 (by assumption) | exact MAt.a12 (by assumption) | exact MAt.a13 (by assumption) | exact MAt.a14 (by assumption) | exact MAt.a15 (by assumption) | exact MAt.a16 (by assumption)) (by rfl) (by omega) (by omega) dX8_tithesOf_24 ?_
        refine r_if_eq_n (tgt := 49) dX8_tithesOf_25 (by decide) (by omega) (fun h25 => by exfalso; omega) (fun h25 => ?_)
        first | refine r_aload_n dX8_tithesOf_28 rfl ?_ | refine r_aload_nq dX8_tithesOf_28 rfl ?_ | refine r_aload_nN dX8_tithesOf_28 rfl ?_
        refine r_iload_n dX8_tithesOf_29 rfl ?_
        refine r_callV s_X8_110_v dX8_tithesOf_30 (by first | exact MAt.o (by assumption) | exact MAt.a1 (by assumption) | exact MAt.a2 (by assumption) | exact MAt.a3 (by assumption) | exact MAt.a4 (by assumption) | exact MAt.a5 (by assumption) | exact MAt.a6 (by assumption) | exact MAt.a7 (by assumption) | exact MAt.a8 (by assumption) | exact MAt.a9 (by assumption) | exact MAt.a10 (by assumption) | exact MAt.a11 (by assumption) | exact MAt.a12 (by assumption) | exact MAt.a13 (by assumption) | exact MAt.a14 (by assumption) | exact MAt.a15 (by assumption) | exact MAt.a16 (by assumption)) (by rfl) rfl (Nat.le_of_ble_eq_true rfl) (m_sort hM k (by omega) ?_)
        refine mK_r ?_
        refine r_iconst (v := nI 3) dX8_tithesOf_33 (by decide) ?_
        first | refine r_icmp_ne_n (tgt := 49) dX8_tithesOf_34 (by decide) (by omega) (by omega) (fun h34 => ?_) (fun h34 => ?_) | refine r_icmp_ne_pn (tgt := 49) dX8_tithesOf_34 (by decide) (by omega) (by omega) (fun h34 => ?_) (fun h34 => ?_) | refine r_icmp_ne_pm (tgt := 49) dX8_tithesOf_34 (by decide) (by omega) (fun h34 => ?_) (fun h34 => ?_) | refine r_icmp_ne (tgt := 49) dX8_tithesOf_34 (by decide) (fun h34 => ?_) (fun h34 => ?_)
        · exact no (fun hh => by omega)
        · have c3' : won W k < wm W := c3 (by omega)
          refine r_fload_n dX8_tithesOf_37 rfl ?_
          first | refine r_aload_n dX8_tithesOf_38 rfl ?_ | refine r_aload_nq dX8_tithesOf_38 rfl ?_ | refine r_aload_nN dX8_tithesOf_38 rfl ?_
          first | refine r_aload_n dX8_tithesOf_39 rfl ?_ | refine r_aload_nq dX8_tithesOf_39 rfl ?_ | refine r_aload_nN dX8_tithesOf_39 rfl ?_
          refine r_iload_n dX8_tithesOf_40 rfl ?_
          refine r_callV s_X8_133_v dX8_tithesOf_41 (by first | exact MAt.o (by assumption) | exact MAt.a1 (by assumption) | exact MAt.a2 (by assumption) | exact MAt.a3 (by assumption) | exact MAt.a4 (by assumption) | exact MAt.a5 (by assumption) | exact MAt.a6 (by assumption) | exact MAt.a7 (by assumption) | exact MAt.a8 (by assumption) | exact MAt.a9 (by assumption) | exact MAt.a10 (by assumption) | exact MAt.a11 (by assumption) | exact MAt.a12 (by assumption) | exact MAt.a13 (by assumption) | exact MAt.a14 (by assumption) | exact MAt.a15 (by assumption) | exact MAt.a16 (by assumption)) (by rfl) rfl (Nat.le_of_ble_eq_true rfl) (m_one hM k (by omega) ?_)
          refine mK_r ?_
          rw [s2']
          have e : oTi W (pOn W n) (k + 1) = FP.fadd (oTi W (pOn W n) k) (wTi W (won W k)) := by show (if _ then _ else _) = _; rw [if_pos ⟨hon, by omega⟩]
          rw [e] at nx
          refine r_callV s_X8_124_v dX8_tithesOf_44 (by first | exact MAt.o (by assumption) | exact MAt.a1 (by assumption) | exact MAt.a2 (by assumption) | exact MAt.a3 (by assumption) | exact MAt.a4 (by assumption) | exact MAt.a5 (by assumption) | exact MAt.a6 (by assumption) | exact MAt.a7 (by assumption) | exact MAt.a8 (by assumption) | exact MAt.a9 (by assumption) | exact MAt.a10 (by assumption) | exact MAt.a11 (by assumption) | exact MAt.a12 (by assumption) | exact MAt.a13 (by assumption) | exact MAt.a14 (by assumption) | exact MAt.a15 (by assumption) | exact MAt.a16 (by assumption)) (by rfl) rfl (Nat.le_of_ble_eq_true rfl) (m_titheOf hM hw hR' (won W k) c3' (nm_e ?_))
          refine mK_r ?_
          refine r_fadd dX8_tithesOf_47 ((fP_add (oTi_p hw _ (by omega)) (wTi_p hw c3')).n) ?_
          refine r_fstore_n dX8_tithesOf_48 (by decide) ?_
          simp only [mst1, mclr]
          first | refine r_iinc_n 1 dX8_tithesOf_49 rfl (by decide) ?_ | refine r_iinc dX8_tithesOf_49 rfl rfl (by decide) ?_
          simp only [mst1, mclr]
          refine r_goto (tgt := 9) dX8_tithesOf_52 (by decide) ?_
          exact nx
  exact loop (wn W) 0 (by omega)
theorem m_pathOf (h : MX B M m X th) (hb : mGb G ≤ m) (p w : Int32) (hq : ∀ M, MX B M m X (spPathOf X p w).1 → Q (.inl (some (.int (spPathOf X p w).2))) M t u) : mMet G (d + 21) zX8_pathOf [.ref m, .int p, .int w] M t u Q := by
  refine m_intro (by decide +kernel) ⟨Nat.le_of_ble_eq_true rfl, Nat.le_of_ble_eq_true rfl⟩ ?_
  show mW G _ _ 0 [some (.ref m), some (.int p), some (.int w)] [] _ _ _ _
  obtain ⟨F, A, hM, hP, hR, h6⟩ := h.un
  have hN256 := xN_le hP.1
  unfold spPathOf at hq
  first | refine r_aload_n dX8_pathOf_0 rfl ?_ | refine r_aload_nq dX8_pathOf_0 rfl ?_ | refine r_aload_nN dX8_pathOf_0 rfl ?_
  refine r_iload_n dX8_pathOf_1 rfl ?_
  refine r_iconst (v := nI 0) dX8_pathOf_2 (by decide) ?_
  first | refine r_aload_n dX8_pathOf_3 rfl ?_ | refine r_aload_nq dX8_pathOf_3 rfl ?_ | refine r_aload_nN dX8_pathOf_3 rfl ?_
  refine r_callV s_X8_245_v dX8_pathOf_4 (by first | exact MAt.o (by assumption) | exact MAt.a1 (by assumption) | exact MAt.a2 (by assumption) | exact MAt.a3 (by assumption) | exact MAt.a4 (by assumption) | exact MAt.a5 (by assumption) | exact MAt.a6 (by assumption) | exact MAt.a7 (by assumption) | exact MAt.a8 (by assumption) | exact MAt.a9 (by assumption) | exact MAt.a10 (by assumption) | exact MAt.a11 (by assumption) | exact MAt.a12 (by assumption) | exact MAt.a13 (by assumption) | exact MAt.a14 (by assumption) | exact MAt.a15 (by assumption) | exact MAt.a16 (by assumption)) (by rfl) rfl (Nat.le_of_ble_eq_true rfl) (m_pathMany hM hb hP.1.1 hR (fun M F1 A1 hM1 kF kA hme => ?_))
  refine mK_r ?_
  refine r_iconst (v := nI 1) dX8_pathOf_7 (by decide) ?_
  have hR1 : mR (xW X) (A1 1) := by rw [kA 1 (by decide)]; exact hR
  have hK1 : MKp F F1 A A1 := MKp.of kF kA
  refine r_isub dX8_pathOf_8 ?_
  refine r_callS s_X8_82_s dX8_pathOf_9 (by rfl) rfl (Nat.le_of_ble_eq_true rfl) (m_in _ _ _ (nm_e ?_))
  refine mK_r ?_
  first | refine r_if_ne_b (tgt := 19) dX8_pathOf_12 (by decide) (fun h12 => ?_) (fun h12 => ?_) | refine r_if_ne_n (tgt := 19) dX8_pathOf_12 (by decide) (by omega) (fun h12 => ?_) (fun h12 => ?_) | refine r_if_ne (tgt := 19) dX8_pathOf_12 (by decide) (fun h12 => ?_) (fun h12 => ?_)
  rotate_left
  · rw [if_pos (by rw [show inB p (xN X) = false from h12]; decide)] at hq
    refine r_iconst (v := nI 1) dX8_pathOf_15 (by decide) ?_
    refine r_goto (tgt := 33) dX8_pathOf_16 (by decide) ?_
    refine r_putf f_X8_64_7 ft_7_6 (by first | exact MAt.o (by assumption) | exact MAt.a1 (by assumption) | exact MAt.a2 (by assumption) | exact MAt.a3 (by assumption) | exact MAt.a4 (by assumption) | exact MAt.a5 (by assumption) | exact MAt.a6 (by assumption) | exact MAt.a7 (by assumption) | exact MAt.a8 (by assumption) | exact MAt.a9 (by assumption) | exact MAt.a10 (by assumption) | exact MAt.a11 (by assumption) | exact MAt.a12 (by assumption) | exact MAt.a13 (by assumption) | exact MAt.a14 (by assumption) | exact MAt.a15 (by assumption) | exact MAt.a16 (by assumption)) (by omega) (by first | rfl | exact bI_nar _) (by first | rfl | exact bI_fit _) dX8_pathOf_33 ?_
    refine MAt.p6 (by assumption) (fun M hM => ?_)
    first | refine r_aload_n dX8_pathOf_36 rfl ?_ | refine r_aload_nq dX8_pathOf_36 rfl ?_ | refine r_aload_nN dX8_pathOf_36 rfl ?_
    refine r_getf f_X8_64_7 (by first | exact MAt.o (by assumption) | exact MAt.a1 (by assumption) | exact MAt.a2 (by assumption) | exact MAt.a3 (by assumption) | exact MAt.a4 (by assumption) | exact MAt.a5 (by assumption) | exact MAt.a6 (by assumption) | exact MAt.a7 (by assumption) | exact MAt.a8 (by assumption) | exact MAt.a9 (by assumption) | exact MAt.a10 (by assumption) | exact MAt.a11 (by assumption) | exact MAt.a12 (by assumption) | exact MAt.a13 (by assumption) | exact MAt.a14 (by assumption) | exact MAt.a15 (by assumption) | exact MAt.a16 (by assumption)) (by rfl) dX8_pathOf_37 ?_
    rw [fU_eq]
    first | refine r_if_le_n (tgt := 45) dX8_pathOf_40 (by decide) (by omega) (fun h40 => by exfalso; omega) (fun h40 => ?_) | refine r_if_le (tgt := 45) dX8_pathOf_40 (by decide) (fun h40 => by exfalso; omega) (fun h40 => ?_)
    refine r_iconst (v := nI 0) dX8_pathOf_43 (by decide) ?_
    refine r_iret rfl (by first | rfl | exact bI_nar _) dX8_pathOf_44 ?_
    exact hq _ (MX.kp hM hP hR (hK1.tr MKp.t6))
  have h12 : inB p (xN X) = true := h12
  obtain ⟨i, hi, rfl⟩ := (inB_iff (by omega)).mp h12
  simp only [h12, not_true_eq_false, if_false, nI_cl (show i < 2147483648 by omega)] at hq
  have hnb : nestB (wso (xW X)) (wn (xW X)) = true := by
    cases hx : nestB (wso (xW X)) (wn (xW X)) with
    | true => rfl
    | false => unfold xN pN at hi; rw [hx] at hi; exact absurd hi (Nat.not_lt_zero i)
  refine r_iload_n dX8_pathOf_19 rfl ?_
  refine r_iconst (v := nI 0) dX8_pathOf_20 (by decide) ?_
  refine r_iconst (v := nI 4) dX8_pathOf_21 (by decide) ?_
  refine r_callS s_X8_82_s dX8_pathOf_22 (by rfl) rfl (Nat.le_of_ble_eq_true rfl) (m_in _ _ _ (nm_e ?_))
  refine mK_r ?_
  first | refine r_if_ne_b (tgt := 32) dX8_pathOf_25 (by decide) (fun h25 => ?_) (fun h25 => ?_) | refine r_if_ne_n (tgt := 32) dX8_pathOf_25 (by decide) (by omega) (fun h25 => ?_) (fun h25 => ?_) | refine r_if_ne (tgt := 32) dX8_pathOf_25 (by decide) (fun h25 => ?_) (fun h25 => ?_)
  rotate_left
  · rw [if_pos (by rw [show inR w 0 4 = false from h25]; decide)] at hq
    refine r_iconst (v := nI 2) dX8_pathOf_28 (by decide) ?_
    refine r_goto (tgt := 33) dX8_pathOf_29 (by decide) ?_
    refine r_putf f_X8_64_7 ft_7_6 (by first | exact MAt.o (by assumption) | exact MAt.a1 (by assumption) | exact MAt.a2 (by assumption) | exact MAt.a3 (by assumption) | exact MAt.a4 (by assumption) | exact MAt.a5 (by assumption) | exact MAt.a6 (by assumption) | exact MAt.a7 (by assumption) | exact MAt.a8 (by assumption) | exact MAt.a9 (by assumption) | exact MAt.a10 (by assumption) | exact MAt.a11 (by assumption) | exact MAt.a12 (by assumption) | exact MAt.a13 (by assumption) | exact MAt.a14 (by assumption) | exact MAt.a15 (by assumption) | exact MAt.a16 (by assumption)) (by omega) (by first | rfl | exact bI_nar _) (by first | rfl | exact bI_fit _) dX8_pathOf_33 ?_
    refine MAt.p6 (by assumption) (fun M hM => ?_)
    first | refine r_aload_n dX8_pathOf_36 rfl ?_ | refine r_aload_nq dX8_pathOf_36 rfl ?_ | refine r_aload_nN dX8_pathOf_36 rfl ?_
    refine r_getf f_X8_64_7 (by first | exact MAt.o (by assumption) | exact MAt.a1 (by assumption) | exact MAt.a2 (by assumption) | exact MAt.a3 (by assumption) | exact MAt.a4 (by assumption) | exact MAt.a5 (by assumption) | exact MAt.a6 (by assumption) | exact MAt.a7 (by assumption) | exact MAt.a8 (by assumption) | exact MAt.a9 (by assumption) | exact MAt.a10 (by assumption) | exact MAt.a11 (by assumption) | exact MAt.a12 (by assumption) | exact MAt.a13 (by assumption) | exact MAt.a14 (by assumption) | exact MAt.a15 (by assumption) | exact MAt.a16 (by assumption)) (by rfl) dX8_pathOf_37 ?_
    rw [fU_eq]
    first | refine r_if_le_n (tgt := 45) dX8_pathOf_40 (by decide) (by omega) (fun h40 => by exfalso; omega) (fun h40 => ?_) | refine r_if_le (tgt := 45) dX8_pathOf_40 (by decide) (fun h40 => by exfalso; omega) (fun h40 => ?_)
    refine r_iconst (v := nI 0) dX8_pathOf_43 (by decide) ?_
    refine r_iret rfl (by first | rfl | exact bI_nar _) dX8_pathOf_44 ?_
    exact hq _ (MX.kp hM hP hR (hK1.tr MKp.t6))
  have h25 : inR w 0 4 = true := h25
  obtain ⟨w, _, hw, rfl⟩ := (inR_iff (lo := 0) (hi := 4) (by decide) (by decide)).mp h25
  simp only [h25, not_true_eq_false, if_false, nI_cl (show w < 2147483648 by omega)] at hq
  refine r_iconst (v := nI 0) dX8_pathOf_32 (by decide) ?_
  refine r_putf f_X8_64_7 ft_7_6 (by first | exact MAt.o (by assumption) | exact MAt.a1 (by assumption) | exact MAt.a2 (by assumption) | exact MAt.a3 (by assumption) | exact MAt.a4 (by assumption) | exact MAt.a5 (by assumption) | exact MAt.a6 (by assumption) | exact MAt.a7 (by assumption) | exact MAt.a8 (by assumption) | exact MAt.a9 (by assumption) | exact MAt.a10 (by assumption) | exact MAt.a11 (by assumption) | exact MAt.a12 (by assumption) | exact MAt.a13 (by assumption) | exact MAt.a14 (by assumption) | exact MAt.a15 (by assumption) | exact MAt.a16 (by assumption)) (by omega) (by first | rfl | exact bI_nar _) (by first | rfl | exact bI_fit _) dX8_pathOf_33 ?_
  refine MAt.p6 (by assumption) (fun M hM => ?_)
  first | refine r_aload_n dX8_pathOf_36 rfl ?_ | refine r_aload_nq dX8_pathOf_36 rfl ?_ | refine r_aload_nN dX8_pathOf_36 rfl ?_
  refine r_getf f_X8_64_7 (by first | exact MAt.o (by assumption) | exact MAt.a1 (by assumption) | exact MAt.a2 (by assumption) | exact MAt.a3 (by assumption) | exact MAt.a4 (by assumption) | exact MAt.a5 (by assumption) | exact MAt.a6 (by assumption) | exact MAt.a7 (by assumption) | exact MAt.a8 (by assumption) | exact MAt.a9 (by assumption) | exact MAt.a10 (by assumption) | exact MAt.a11 (by assumption) | exact MAt.a12 (by assumption) | exact MAt.a13 (by assumption) | exact MAt.a14 (by assumption) | exact MAt.a15 (by assumption) | exact MAt.a16 (by assumption)) (by rfl) dX8_pathOf_37 ?_
  rw [fU_eq]
  first | refine r_if_le_n (tgt := 45) dX8_pathOf_40 (by decide) (by omega) (fun h40 => ?_) (fun h40 => by exfalso; omega) | refine r_if_le (tgt := 45) dX8_pathOf_40 (by decide) (fun h40 => ?_) (fun h40 => by exfalso; omega)
  first | refine r_aload_n dX8_pathOf_45 rfl ?_ | refine r_aload_nq dX8_pathOf_45 rfl ?_ | refine r_aload_nN dX8_pathOf_45 rfl ?_
  refine r_iload_n dX8_pathOf_46 rfl ?_
  refine r_callV s_X8_249_v dX8_pathOf_47 (by first | exact MAt.o (by assumption) | exact MAt.a1 (by assumption) | exact MAt.a2 (by assumption) | exact MAt.a3 (by assumption) | exact MAt.a4 (by assumption) | exact MAt.a5 (by assumption) | exact MAt.a6 (by assumption) | exact MAt.a7 (by assumption) | exact MAt.a8 (by assumption) | exact MAt.a9 (by assumption) | exact MAt.a10 (by assumption) | exact MAt.a11 (by assumption) | exact MAt.a12 (by assumption) | exact MAt.a13 (by assumption) | exact MAt.a14 (by assumption) | exact MAt.a15 (by assumption) | exact MAt.a16 (by assumption)) (by rfl) rfl (Nat.le_of_ble_eq_true rfl) (m_marksPath hM hb hP.1.1 hR1 hnb (hme hnb) i hi (fun M F2 A2 hM2 b1 b2 b3 b4 => ?_))
  refine mK_v ?_
  have hR2 : mR (xW X) (A2 1) := by rw [b2 1 (by decide)]; exact hR1
  have hK2 : MKp F F2 A A2 := hK1.tr (MKp.t6.tr ⟨b1 3 (by decide) (by decide), b1 5 (by decide) (by decide), b1 7 (by decide) (by decide), b1 26 (by decide) (by decide), b1 28 (by decide) (by decide), b1 29 (by decide) (by decide), b2 1 (by decide), b2 3 (by decide), b2 4 (by decide), b2 14 (by decide), b2 15 (by decide)⟩)
  have f6 : F2 6 = 0 := by rw [b1 6 (by decide) (by decide), fU_eq]
  have hX2 : MX B M m X 0 := by rw [← f6]; exact MX.kp hM2 hP hR hK2
  by_cases hw3 : w < 3
  · obtain rfl | rfl | rfl : w = 0 ∨ w = 1 ∨ w = 2 := by omega
    · refine r_iload_n dX8_pathOf_50 rfl ?_
      refine r_iconst (v := nI 3) dX8_pathOf_51 (by decide) ?_
      first | refine r_icmp_ge_n (tgt := 82) dX8_pathOf_52 (by decide) (by omega) (by omega) (fun h52 => by exfalso; omega) (fun h52 => ?_) | refine r_icmp_ge (tgt := 82) dX8_pathOf_52 (by decide) (fun h52 => by exfalso; omega) (fun h52 => ?_)
      refine r_iload_n dX8_pathOf_55 rfl ?_
      refine r_iconst (v := nI 1) dX8_pathOf_56 (by decide) ?_
      first | refine r_icmp_ne_n (tgt := 67) dX8_pathOf_57 (by decide) (by omega) (by omega) (fun h57 => ?_) (fun h57 => by exfalso; omega) | refine r_icmp_ne_pn (tgt := 67) dX8_pathOf_57 (by decide) (by omega) (by omega) (fun h57 => ?_) (fun h57 => by exfalso; omega) | refine r_icmp_ne_pm (tgt := 67) dX8_pathOf_57 (by decide) (by omega) (fun h57 => ?_) (fun h57 => by exfalso; omega) | refine r_icmp_ne (tgt := 67) dX8_pathOf_57 (by decide) (fun h57 => ?_) (fun h57 => by exfalso; omega)
      first | refine r_aload_n dX8_pathOf_67 rfl ?_ | refine r_aload_nq dX8_pathOf_67 rfl ?_ | refine r_aload_nN dX8_pathOf_67 rfl ?_
      refine r_iload_n dX8_pathOf_68 rfl ?_
      refine r_iconst (v := nI 2) dX8_pathOf_69 (by decide) ?_
      first | refine r_icmp_ne_n (tgt := 77) dX8_pathOf_70 (by decide) (by omega) (by omega) (fun h70 => ?_) (fun h70 => by exfalso; omega) | refine r_icmp_ne_pn (tgt := 77) dX8_pathOf_70 (by decide) (by omega) (by omega) (fun h70 => ?_) (fun h70 => by exfalso; omega) | refine r_icmp_ne_pm (tgt := 77) dX8_pathOf_70 (by decide) (by omega) (fun h70 => ?_) (fun h70 => by exfalso; omega) | refine r_icmp_ne (tgt := 77) dX8_pathOf_70 (by decide) (fun h70 => ?_) (fun h70 => by exfalso; omega)
      refine r_iconst (v := nI 0) dX8_pathOf_77 (by decide) ?_
      refine r_callV s_X8_253_v dX8_pathOf_78 (by first | exact MAt.o (by assumption) | exact MAt.a1 (by assumption) | exact MAt.a2 (by assumption) | exact MAt.a3 (by assumption) | exact MAt.a4 (by assumption) | exact MAt.a5 (by assumption) | exact MAt.a6 (by assumption) | exact MAt.a7 (by assumption) | exact MAt.a8 (by assumption) | exact MAt.a9 (by assumption) | exact MAt.a10 (by assumption) | exact MAt.a11 (by assumption) | exact MAt.a12 (by assumption) | exact MAt.a13 (by assumption) | exact MAt.a14 (by assumption) | exact MAt.a15 (by assumption) | exact MAt.a16 (by assumption)) (by rfl) rfl (Nat.le_of_ble_eq_true rfl) (m_sumOf hM2 hP.1.1 hR2 (pOn (xW X) i) b4 false ?_)
      refine mK_r ?_
      refine r_iret rfl (by first | rfl | exact bI_nar _) dX8_pathOf_81 ?_
      exact hq _ hX2
    · refine r_iload_n dX8_pathOf_50 rfl ?_
      refine r_iconst (v := nI 3) dX8_pathOf_51 (by decide) ?_
      first | refine r_icmp_ge_n (tgt := 82) dX8_pathOf_52 (by decide) (by omega) (by omega) (fun h52 => by exfalso; omega) (fun h52 => ?_) | refine r_icmp_ge (tgt := 82) dX8_pathOf_52 (by decide) (fun h52 => by exfalso; omega) (fun h52 => ?_)
      refine r_iload_n dX8_pathOf_55 rfl ?_
      refine r_iconst (v := nI 1) dX8_pathOf_56 (by decide) ?_
      first | refine r_icmp_ne_n (tgt := 67) dX8_pathOf_57 (by decide) (by omega) (by omega) (fun h57 => by exfalso; omega) (fun h57 => ?_) | refine r_icmp_ne_pn (tgt := 67) dX8_pathOf_57 (by decide) (by omega) (by omega) (fun h57 => by exfalso; omega) (fun h57 => ?_) | refine r_icmp_ne_pm (tgt := 67) dX8_pathOf_57 (by decide) (by omega) (fun h57 => by exfalso; omega) (fun h57 => ?_) | refine r_icmp_ne (tgt := 67) dX8_pathOf_57 (by decide) (fun h57 => by exfalso; omega) (fun h57 => ?_)
      first | refine r_aload_n dX8_pathOf_60 rfl ?_ | refine r_aload_nq dX8_pathOf_60 rfl ?_ | refine r_aload_nN dX8_pathOf_60 rfl ?_
      refine r_getf f_X8_235_7 (by first | exact MAt.o (by assumption) | exact MAt.a1 (by assumption) | exact MAt.a2 (by assumption) | exact MAt.a3 (by assumption) | exact MAt.a4 (by assumption) | exact MAt.a5 (by assumption) | exact MAt.a6 (by assumption) | exact MAt.a7 (by assumption) | exact MAt.a8 (by assumption) | exact MAt.a9 (by assumption) | exact MAt.a10 (by assumption) | exact MAt.a11 (by assumption) | exact MAt.a12 (by assumption) | exact MAt.a13 (by assumption) | exact MAt.a14 (by assumption) | exact MAt.a15 (by assumption) | exact MAt.a16 (by assumption)) (by rfl) dX8_pathOf_61 ?_
      refine r_goto (tgt := 81) dX8_pathOf_64 (by decide) ?_
      refine r_iret rfl (by first | rfl | exact bI_nar _) dX8_pathOf_81 ?_
      rw [b3]; exact hq _ hX2
    · refine r_iload_n dX8_pathOf_50 rfl ?_
      refine r_iconst (v := nI 3) dX8_pathOf_51 (by decide) ?_
      first | refine r_icmp_ge_n (tgt := 82) dX8_pathOf_52 (by decide) (by omega) (by omega) (fun h52 => by exfalso; omega) (fun h52 => ?_) | refine r_icmp_ge (tgt := 82) dX8_pathOf_52 (by decide) (fun h52 => by exfalso; omega) (fun h52 => ?_)
      refine r_iload_n dX8_pathOf_55 rfl ?_
      refine r_iconst (v := nI 1) dX8_pathOf_56 (by decide) ?_
      first | refine r_icmp_ne_n (tgt := 67) dX8_pathOf_57 (by decide) (by omega) (by omega) (fun h57 => ?_) (fun h57 => by exfalso; omega) | refine r_icmp_ne_pn (tgt := 67) dX8_pathOf_57 (by decide) (by omega) (by omega) (fun h57 => ?_) (fun h57 => by exfalso; omega) | refine r_icmp_ne_pm (tgt := 67) dX8_pathOf_57 (by decide) (by omega) (fun h57 => ?_) (fun h57 => by exfalso; omega) | refine r_icmp_ne (tgt := 67) dX8_pathOf_57 (by decide) (fun h57 => ?_) (fun h57 => by exfalso; omega)
      first | refine r_aload_n dX8_pathOf_67 rfl ?_ | refine r_aload_nq dX8_pathOf_67 rfl ?_ | refine r_aload_nN dX8_pathOf_67 rfl ?_
      refine r_iload_n dX8_pathOf_68 rfl ?_
      refine r_iconst (v := nI 2) dX8_pathOf_69 (by decide) ?_
      first | refine r_icmp_ne_n (tgt := 77) dX8_pathOf_70 (by decide) (by omega) (by omega) (fun h70 => by exfalso; omega) (fun h70 => ?_) | refine r_icmp_ne_pn (tgt := 77) dX8_pathOf_70 (by decide) (by omega) (by omega) (fun h70 => by exfalso; omega) (fun h70 => ?_) | refine r_icmp_ne_pm (tgt := 77) dX8_pathOf_70 (by decide) (by omega) (fun h70 => by exfalso; omega) (fun h70 => ?_) | refine r_icmp_ne (tgt := 77) dX8_pathOf_70 (by decide) (fun h70 => by exfalso; omega) (fun h70 => ?_)
      refine r_iconst (v := nI 1) dX8_pathOf_73 (by decide) ?_
      refine r_goto (tgt := 78) dX8_pathOf_74 (by decide) ?_
      refine r_callV s_X8_253_v dX8_pathOf_78 (by first | exact MAt.o (by assumption) | exact MAt.a1 (by assumption) | exact MAt.a2 (by assumption) | exact MAt.a3 (by assumption) | exact MAt.a4 (by assumption) | exact MAt.a5 (by assumption) | exact MAt.a6 (by assumption) | exact MAt.a7 (by assumption) | exact MAt.a8 (by assumption) | exact MAt.a9 (by assumption) | exact MAt.a10 (by assumption) | exact MAt.a11 (by assumption) | exact MAt.a12 (by assumption) | exact MAt.a13 (by assumption) | exact MAt.a14 (by assumption) | exact MAt.a15 (by assumption) | exact MAt.a16 (by assumption)) (by rfl) rfl (Nat.le_of_ble_eq_true rfl) (m_sumOf hM2 hP.1.1 hR2 (pOn (xW X) i) b4 true ?_)
      refine mK_r ?_
      refine r_iret rfl (by first | rfl | exact bI_nar _) dX8_pathOf_81 ?_
      exact hq _ hX2
  · refine r_iload_n dX8_pathOf_50 rfl ?_
    refine r_iconst (v := nI 3) dX8_pathOf_51 (by decide) ?_
    first | refine r_icmp_ge_n (tgt := 82) dX8_pathOf_52 (by decide) (by omega) (by omega) (fun h52 => ?_) (fun h52 => by exfalso; omega) | refine r_icmp_ge (tgt := 82) dX8_pathOf_52 (by decide) (fun h52 => ?_) (fun h52 => by exfalso; omega)
    first | refine r_aload_n dX8_pathOf_82 rfl ?_ | refine r_aload_nq dX8_pathOf_82 rfl ?_ | refine r_aload_nN dX8_pathOf_82 rfl ?_
    refine r_callV s_X8_257_v dX8_pathOf_83 (by first | exact MAt.o (by assumption) | exact MAt.a1 (by assumption) | exact MAt.a2 (by assumption) | exact MAt.a3 (by assumption) | exact MAt.a4 (by assumption) | exact MAt.a5 (by assumption) | exact MAt.a6 (by assumption) | exact MAt.a7 (by assumption) | exact MAt.a8 (by assumption) | exact MAt.a9 (by assumption) | exact MAt.a10 (by assumption) | exact MAt.a11 (by assumption) | exact MAt.a12 (by assumption) | exact MAt.a13 (by assumption) | exact MAt.a14 (by assumption) | exact MAt.a15 (by assumption) | exact MAt.a16 (by assumption)) (by rfl) rfl (Nat.le_of_ble_eq_true rfl) (m_looksOn hM2 hb hP.1.1 hR2 (pOn (xW X) i) b4 (fun M F3 A3 hM3 hK3 g1 g2 g3 => ?_))
    refine mK_v ?_
    have hX3 : MX B M m X (F3 6) := MX.kp hM3 hP hR (hK2.tr hK3.k)
    rw [hK3.1 6 (by omega), f6] at hX3
    obtain rfl | rfl : w = 3 ∨ w = 4 := by omega
    · refine r_iload_n dX8_pathOf_86 rfl ?_
      refine r_iconst (v := nI 3) dX8_pathOf_87 (by decide) ?_
      first | refine r_icmp_ne_n (tgt := 98) dX8_pathOf_88 (by decide) (by omega) (by omega) (fun h88 => by exfalso; omega) (fun h88 => ?_) | refine r_icmp_ne_pn (tgt := 98) dX8_pathOf_88 (by decide) (by omega) (by omega) (fun h88 => by exfalso; omega) (fun h88 => ?_) | refine r_icmp_ne_pm (tgt := 98) dX8_pathOf_88 (by decide) (by omega) (fun h88 => by exfalso; omega) (fun h88 => ?_) | refine r_icmp_ne (tgt := 98) dX8_pathOf_88 (by decide) (fun h88 => by exfalso; omega) (fun h88 => ?_)
      first | refine r_aload_n dX8_pathOf_91 rfl ?_ | refine r_aload_nq dX8_pathOf_91 rfl ?_ | refine r_aload_nN dX8_pathOf_91 rfl ?_
      refine r_getf f_X8_176_7 (by first | exact MAt.o (by assumption) | exact MAt.a1 (by assumption) | exact MAt.a2 (by assumption) | exact MAt.a3 (by assumption) | exact MAt.a4 (by assumption) | exact MAt.a5 (by assumption) | exact MAt.a6 (by assumption) | exact MAt.a7 (by assumption) | exact MAt.a8 (by assumption) | exact MAt.a9 (by assumption) | exact MAt.a10 (by assumption) | exact MAt.a11 (by assumption) | exact MAt.a12 (by assumption) | exact MAt.a13 (by assumption) | exact MAt.a14 (by assumption) | exact MAt.a15 (by assumption) | exact MAt.a16 (by assumption)) (by rfl) dX8_pathOf_92 ?_
      refine r_goto (tgt := 102) dX8_pathOf_95 (by decide) ?_
      refine r_iret rfl (by first | rfl | exact bI_nar _) dX8_pathOf_102 ?_
      rw [g1]; exact hq _ hX3
    · refine r_iload_n dX8_pathOf_86 rfl ?_
      refine r_iconst (v := nI 3) dX8_pathOf_87 (by decide) ?_
      first | refine r_icmp_ne_n (tgt := 98) dX8_pathOf_88 (by decide) (by omega) (by omega) (fun h88 => ?_) (fun h88 => by exfalso; omega) | refine r_icmp_ne_pn (tgt := 98) dX8_pathOf_88 (by decide) (by omega) (by omega) (fun h88 => ?_) (fun h88 => by exfalso; omega) | refine r_icmp_ne_pm (tgt := 98) dX8_pathOf_88 (by decide) (by omega) (fun h88 => ?_) (fun h88 => by exfalso; omega) | refine r_icmp_ne (tgt := 98) dX8_pathOf_88 (by decide) (fun h88 => ?_) (fun h88 => by exfalso; omega)
      first | refine r_aload_n dX8_pathOf_98 rfl ?_ | refine r_aload_nq dX8_pathOf_98 rfl ?_ | refine r_aload_nN dX8_pathOf_98 rfl ?_
      refine r_getf f_X8_179_7 (by first | exact MAt.o (by assumption) | exact MAt.a1 (by assumption) | exact MAt.a2 (by assumption) | exact MAt.a3 (by assumption) | exact MAt.a4 (by assumption) | exact MAt.a5 (by assumption) | exact MAt.a6 (by assumption) | exact MAt.a7 (by assumption) | exact MAt.a8 (by assumption) | exact MAt.a9 (by assumption) | exact MAt.a10 (by assumption) | exact MAt.a11 (by assumption) | exact MAt.a12 (by assumption) | exact MAt.a13 (by assumption) | exact MAt.a14 (by assumption) | exact MAt.a15 (by assumption) | exact MAt.a16 (by assumption)) (by rfl) dX8_pathOf_99 ?_
      refine r_iret rfl (by first | rfl | exact bI_nar _) dX8_pathOf_102 ?_
      rw [g2]; exact hq _ hX3
theorem m_goesBy (h : MX B M m X th) (hb : mGb G ≤ m) (p k : Int32) (hq : ∀ M, MX B M m X (spGoesBy X p k).1 → Q (.inl (some (.int (bI (spGoesBy X p k).2)))) M t u) : mMet G (d + 21) zX8_goesBy [.ref m, .int p, .int k] M t u Q := by
  refine m_intro (by decide +kernel) ⟨Nat.le_of_ble_eq_true rfl, Nat.le_of_ble_eq_true rfl⟩ ?_
  show mW G _ _ 0 [some (.ref m), some (.int p), some (.int k)] [] _ _ _ _
  obtain ⟨F, A, hM, hP, hR, h6⟩ := h.un
  obtain ⟨⟨e0, hm'⟩, ⟨e1, hn'⟩, ⟨e2, hcg⟩, e3, e4, e5⟩ := mR_up hP.1.1 hR
  have hN256 := xN_le hP.1
  unfold spGoesBy at hq
  first | refine r_aload_n dX8_goesBy_0 rfl ?_ | refine r_aload_nq dX8_goesBy_0 rfl ?_ | refine r_aload_nN dX8_goesBy_0 rfl ?_
  refine r_iload_n dX8_goesBy_1 rfl ?_
  refine r_iconst (v := nI 0) dX8_goesBy_2 (by decide) ?_
  first | refine r_aload_n dX8_goesBy_3 rfl ?_ | refine r_aload_nq dX8_goesBy_3 rfl ?_ | refine r_aload_nN dX8_goesBy_3 rfl ?_
  refine r_callV s_X8_245_v dX8_goesBy_4 (by first | exact MAt.o (by assumption) | exact MAt.a1 (by assumption) | exact MAt.a2 (by assumption) | exact MAt.a3 (by assumption) | exact MAt.a4 (by assumption) | exact MAt.a5 (by assumption) | exact MAt.a6 (by assumption) | exact MAt.a7 (by assumption) | exact MAt.a8 (by assumption) | exact MAt.a9 (by assumption) | exact MAt.a10 (by assumption) | exact MAt.a11 (by assumption) | exact MAt.a12 (by assumption) | exact MAt.a13 (by assumption) | exact MAt.a14 (by assumption) | exact MAt.a15 (by assumption) | exact MAt.a16 (by assumption)) (by rfl) rfl (Nat.le_of_ble_eq_true rfl) (m_pathMany hM hb hP.1.1 hR (fun M F1 A1 hM1 kF kA hme => ?_))
  refine mK_r ?_
  refine r_iconst (v := nI 1) dX8_goesBy_7 (by decide) ?_
  have hR1 : mR (xW X) (A1 1) := by rw [kA 1 (by decide)]; exact hR
  have hK1 : MKp F F1 A A1 := MKp.of kF kA
  have e11 : A1 1 1 = wn (xW X) := hR1.2.1
  refine r_isub dX8_goesBy_8 ?_
  refine r_callS s_X8_82_s dX8_goesBy_9 (by rfl) rfl (Nat.le_of_ble_eq_true rfl) (m_in _ _ _ (nm_e ?_))
  refine mK_r ?_
  first | refine r_if_ne_b (tgt := 19) dX8_goesBy_12 (by decide) (fun h12 => ?_) (fun h12 => ?_) | refine r_if_ne_n (tgt := 19) dX8_goesBy_12 (by decide) (by omega) (fun h12 => ?_) (fun h12 => ?_) | refine r_if_ne (tgt := 19) dX8_goesBy_12 (by decide) (fun h12 => ?_) (fun h12 => ?_)
  rotate_left
  · rw [if_pos (by rw [show inB p (xN X) = false from h12]; decide)] at hq
    refine r_iconst (v := nI 1) dX8_goesBy_15 (by decide) ?_
    refine r_goto (tgt := 32) dX8_goesBy_16 (by decide) ?_
    refine r_putf f_X8_64_7 ft_7_6 (by first | exact MAt.o (by assumption) | exact MAt.a1 (by assumption) | exact MAt.a2 (by assumption) | exact MAt.a3 (by assumption) | exact MAt.a4 (by assumption) | exact MAt.a5 (by assumption) | exact MAt.a6 (by assumption) | exact MAt.a7 (by assumption) | exact MAt.a8 (by assumption) | exact MAt.a9 (by assumption) | exact MAt.a10 (by assumption) | exact MAt.a11 (by assumption) | exact MAt.a12 (by assumption) | exact MAt.a13 (by assumption) | exact MAt.a14 (by assumption) | exact MAt.a15 (by assumption) | exact MAt.a16 (by assumption)) (by omega) (by first | rfl | exact bI_nar _) (by first | rfl | exact bI_fit _) dX8_goesBy_32 ?_
    refine MAt.p6 (by assumption) (fun M hM => ?_)
    first | refine r_aload_n dX8_goesBy_35 rfl ?_ | refine r_aload_nq dX8_goesBy_35 rfl ?_ | refine r_aload_nN dX8_goesBy_35 rfl ?_
    refine r_getf f_X8_64_7 (by first | exact MAt.o (by assumption) | exact MAt.a1 (by assumption) | exact MAt.a2 (by assumption) | exact MAt.a3 (by assumption) | exact MAt.a4 (by assumption) | exact MAt.a5 (by assumption) | exact MAt.a6 (by assumption) | exact MAt.a7 (by assumption) | exact MAt.a8 (by assumption) | exact MAt.a9 (by assumption) | exact MAt.a10 (by assumption) | exact MAt.a11 (by assumption) | exact MAt.a12 (by assumption) | exact MAt.a13 (by assumption) | exact MAt.a14 (by assumption) | exact MAt.a15 (by assumption) | exact MAt.a16 (by assumption)) (by rfl) dX8_goesBy_36 ?_
    rw [fU_eq]
    first | refine r_if_le_n (tgt := 44) dX8_goesBy_39 (by decide) (by omega) (fun h39 => by exfalso; omega) (fun h39 => ?_) | refine r_if_le (tgt := 44) dX8_goesBy_39 (by decide) (fun h39 => by exfalso; omega) (fun h39 => ?_)
    refine r_iconst (v := nI 0) dX8_goesBy_42 (by decide) ?_
    refine r_iret rfl (by first | rfl | exact bI_nar _) dX8_goesBy_43 ?_
    exact hq _ (MX.kp hM hP hR (hK1.tr MKp.t6))
  have h12 : inB p (xN X) = true := h12
  obtain ⟨i, hi, rfl⟩ := (inB_iff (by omega)).mp h12
  simp only [h12, not_true_eq_false, if_false, nI_cl (show i < 2147483648 by omega)] at hq
  have hnb : nestB (wso (xW X)) (wn (xW X)) = true := by
    cases hx : nestB (wso (xW X)) (wn (xW X)) with
    | true => rfl
    | false => unfold xN pN at hi; rw [hx] at hi; exact absurd hi (Nat.not_lt_zero i)
  first | refine r_aload_n dX8_goesBy_19 rfl ?_ | refine r_aload_nq dX8_goesBy_19 rfl ?_ | refine r_aload_nN dX8_goesBy_19 rfl ?_
  refine r_iload_n dX8_goesBy_20 rfl ?_
  refine r_callV s_X8_157_v dX8_goesBy_21 (by first | exact MAt.o (by assumption) | exact MAt.a1 (by assumption) | exact MAt.a2 (by assumption) | exact MAt.a3 (by assumption) | exact MAt.a4 (by assumption) | exact MAt.a5 (by assumption) | exact MAt.a6 (by assumption) | exact MAt.a7 (by assumption) | exact MAt.a8 (by assumption) | exact MAt.a9 (by assumption) | exact MAt.a10 (by assumption) | exact MAt.a11 (by assumption) | exact MAt.a12 (by assumption) | exact MAt.a13 (by assumption) | exact MAt.a14 (by assumption) | exact MAt.a15 (by assumption) | exact MAt.a16 (by assumption)) (by rfl) rfl (Nat.le_of_ble_eq_true rfl) (m_isClause hM1 _ (nm_e ?_))
  refine mK_r ?_
  first | refine r_if_ne_b (tgt := 31) dX8_goesBy_24 (by decide) (fun h24 => ?_) (fun h24 => ?_) | refine r_if_ne_n (tgt := 31) dX8_goesBy_24 (by decide) (by omega) (fun h24 => ?_) (fun h24 => ?_) | refine r_if_ne (tgt := 31) dX8_goesBy_24 (by decide) (fun h24 => ?_) (fun h24 => ?_)
  rotate_left
  · rw [if_pos (by rw [← e11, h24]; decide)] at hq
    refine r_iconst (v := nI 2) dX8_goesBy_27 (by decide) ?_
    refine r_goto (tgt := 32) dX8_goesBy_28 (by decide) ?_
    refine r_putf f_X8_64_7 ft_7_6 (by first | exact MAt.o (by assumption) | exact MAt.a1 (by assumption) | exact MAt.a2 (by assumption) | exact MAt.a3 (by assumption) | exact MAt.a4 (by assumption) | exact MAt.a5 (by assumption) | exact MAt.a6 (by assumption) | exact MAt.a7 (by assumption) | exact MAt.a8 (by assumption) | exact MAt.a9 (by assumption) | exact MAt.a10 (by assumption) | exact MAt.a11 (by assumption) | exact MAt.a12 (by assumption) | exact MAt.a13 (by assumption) | exact MAt.a14 (by assumption) | exact MAt.a15 (by assumption) | exact MAt.a16 (by assumption)) (by omega) (by first | rfl | exact bI_nar _) (by first | rfl | exact bI_fit _) dX8_goesBy_32 ?_
    refine MAt.p6 (by assumption) (fun M hM => ?_)
    first | refine r_aload_n dX8_goesBy_35 rfl ?_ | refine r_aload_nq dX8_goesBy_35 rfl ?_ | refine r_aload_nN dX8_goesBy_35 rfl ?_
    refine r_getf f_X8_64_7 (by first | exact MAt.o (by assumption) | exact MAt.a1 (by assumption) | exact MAt.a2 (by assumption) | exact MAt.a3 (by assumption) | exact MAt.a4 (by assumption) | exact MAt.a5 (by assumption) | exact MAt.a6 (by assumption) | exact MAt.a7 (by assumption) | exact MAt.a8 (by assumption) | exact MAt.a9 (by assumption) | exact MAt.a10 (by assumption) | exact MAt.a11 (by assumption) | exact MAt.a12 (by assumption) | exact MAt.a13 (by assumption) | exact MAt.a14 (by assumption) | exact MAt.a15 (by assumption) | exact MAt.a16 (by assumption)) (by rfl) dX8_goesBy_36 ?_
    rw [fU_eq]
    first | refine r_if_le_n (tgt := 44) dX8_goesBy_39 (by decide) (by omega) (fun h39 => by exfalso; omega) (fun h39 => ?_) | refine r_if_le (tgt := 44) dX8_goesBy_39 (by decide) (fun h39 => by exfalso; omega) (fun h39 => ?_)
    refine r_iconst (v := nI 0) dX8_goesBy_42 (by decide) ?_
    refine r_iret rfl (by first | rfl | exact bI_nar _) dX8_goesBy_43 ?_
    exact hq _ (MX.kp hM hP hR (hK1.tr MKp.t6))
  obtain ⟨k, hk, rfl⟩ := (inB_iff (by omega)).mp h24
  rw [e11] at h24 hk
  simp only [h24, not_true_eq_false, if_false, nI_cl (show k < 2147483648 by omega)] at hq
  refine r_iconst (v := nI 0) dX8_goesBy_31 (by decide) ?_
  refine r_putf f_X8_64_7 ft_7_6 (by first | exact MAt.o (by assumption) | exact MAt.a1 (by assumption) | exact MAt.a2 (by assumption) | exact MAt.a3 (by assumption) | exact MAt.a4 (by assumption) | exact MAt.a5 (by assumption) | exact MAt.a6 (by assumption) | exact MAt.a7 (by assumption) | exact MAt.a8 (by assumption) | exact MAt.a9 (by assumption) | exact MAt.a10 (by assumption) | exact MAt.a11 (by assumption) | exact MAt.a12 (by assumption) | exact MAt.a13 (by assumption) | exact MAt.a14 (by assumption) | exact MAt.a15 (by assumption) | exact MAt.a16 (by assumption)) (by omega) (by first | rfl | exact bI_nar _) (by first | rfl | exact bI_fit _) dX8_goesBy_32 ?_
  refine MAt.p6 (by assumption) (fun M hM => ?_)
  first | refine r_aload_n dX8_goesBy_35 rfl ?_ | refine r_aload_nq dX8_goesBy_35 rfl ?_ | refine r_aload_nN dX8_goesBy_35 rfl ?_
  refine r_getf f_X8_64_7 (by first | exact MAt.o (by assumption) | exact MAt.a1 (by assumption) | exact MAt.a2 (by assumption) | exact MAt.a3 (by assumption) | exact MAt.a4 (by assumption) | exact MAt.a5 (by assumption) | exact MAt.a6 (by assumption) | exact MAt.a7 (by assumption) | exact MAt.a8 (by assumption) | exact MAt.a9 (by assumption) | exact MAt.a10 (by assumption) | exact MAt.a11 (by assumption) | exact MAt.a12 (by assumption) | exact MAt.a13 (by assumption) | exact MAt.a14 (by assumption) | exact MAt.a15 (by assumption) | exact MAt.a16 (by assumption)) (by rfl) dX8_goesBy_36 ?_
  rw [fU_eq]
  first | refine r_if_le_n (tgt := 44) dX8_goesBy_39 (by decide) (by omega) (fun h39 => ?_) (fun h39 => by exfalso; omega) | refine r_if_le (tgt := 44) dX8_goesBy_39 (by decide) (fun h39 => ?_) (fun h39 => by exfalso; omega)
  first | refine r_aload_n dX8_goesBy_44 rfl ?_ | refine r_aload_nq dX8_goesBy_44 rfl ?_ | refine r_aload_nN dX8_goesBy_44 rfl ?_
  refine r_iload_n dX8_goesBy_45 rfl ?_
  refine r_callV s_X8_249_v dX8_goesBy_46 (by first | exact MAt.o (by assumption) | exact MAt.a1 (by assumption) | exact MAt.a2 (by assumption) | exact MAt.a3 (by assumption) | exact MAt.a4 (by assumption) | exact MAt.a5 (by assumption) | exact MAt.a6 (by assumption) | exact MAt.a7 (by assumption) | exact MAt.a8 (by assumption) | exact MAt.a9 (by assumption) | exact MAt.a10 (by assumption) | exact MAt.a11 (by assumption) | exact MAt.a12 (by assumption) | exact MAt.a13 (by assumption) | exact MAt.a14 (by assumption) | exact MAt.a15 (by assumption) | exact MAt.a16 (by assumption)) (by rfl) rfl (Nat.le_of_ble_eq_true rfl) (m_marksPath hM hb hP.1.1 hR1 hnb (hme hnb) i hi (fun M F2 A2 hM2 b1 b2 b3 b4 => ?_))
  refine mK_v ?_
  have hK2 : MKp F F2 A A2 := hK1.tr (MKp.t6.tr ⟨b1 3 (by decide) (by decide), b1 5 (by decide) (by decide), b1 7 (by decide) (by decide), b1 26 (by decide) (by decide), b1 28 (by decide) (by decide), b1 29 (by decide) (by decide), b2 1 (by decide), b2 3 (by decide), b2 4 (by decide), b2 14 (by decide), b2 15 (by decide)⟩)
  have f6 : F2 6 = 0 := by rw [b1 6 (by decide) (by decide), fU_eq]
  have hX2 : MX B M m X 0 := by rw [← f6]; exact MX.kp hM2 hP hR hK2
  have e13 : nI (A2 13 k) = bI (pOn (xW X) i k) := by rw [b4 k (by omega)]; cases pOn (xW X) i k <;> rfl
  first | refine r_aload_n dX8_goesBy_49 rfl ?_ | refine r_aload_nq dX8_goesBy_49 rfl ?_ | refine r_aload_nN dX8_goesBy_49 rfl ?_
  refine r_getf f_X8_46_7 (by first | exact MAt.o (by assumption) | exact MAt.a1 (by assumption) | exact MAt.a2 (by assumption) | exact MAt.a3 (by assumption) | exact MAt.a4 (by assumption) | exact MAt.a5 (by assumption) | exact MAt.a6 (by assumption) | exact MAt.a7 (by assumption) | exact MAt.a8 (by assumption) | exact MAt.a9 (by assumption) | exact MAt.a10 (by assumption) | exact MAt.a11 (by assumption) | exact MAt.a12 (by assumption) | exact MAt.a13 (by assumption) | exact MAt.a14 (by assumption) | exact MAt.a15 (by assumption) | exact MAt.a16 (by assumption)) (by rfl) dX8_goesBy_50 ?_
  refine r_iload_n dX8_goesBy_53 rfl ?_
  first | refine r_zald_n (by first | exact MAt.o (by assumption) | exact MAt.a1 (by assumption) | exact MAt.a2 (by assumption) | exact MAt.a3 (by assumption) | exact MAt.a4 (by assumption) | exact MAt.a5 (by assumption) | exact MAt.a6 (by assumption) | exact MAt.a7 (by assumption) | exact MAt.a8 (by assumption) | exact MAt.a9 (by assumption) | exact MAt.a10 (by assumption) | exact MAt.a11 (by assumption) | exact MAt.a12 (by assumption) | exact MAt.a13 (by assumption) | exact MAt.a14 (by assumption) | exact MAt.a15 (by assumption) | exact MAt.a16 (by assumption)) (by rfl) (by omega) (by omega) dX8_goesBy_54 ?_ | refine r_bald_n (by first | exact MAt.o (by assumption) | exact MAt.a1 (by assumption) | exact MAt.a2 (by assumption) | exact MAt.a3 (by assumption) | exact MAt.a4 (by assumption) | exact MAt.a5 (by assumption) | exact MAt.a6 (by assumption) | exact MAt.a7 (by assumption) | exact MAt.a8 (by assumption) | exact MAt.a9 (by assumption) | exact MAt.a10 (by assumption) | exact MAt.a11 (by assumption) | exact MAt.a12 (by assumption) | exact MAt.a13 (by assumption) | exact MAt.a14 (by assumption) | exact MAt.a15 (by assumption) | exact MAt.a16 (by assumption)) (by rfl) (by omega) (by omega) dX8_goesBy_54 ?_
  rw [e13]
  refine r_iret rfl (by first | rfl | exact bI_nar _) dX8_goesBy_55 ?_
  exact hq _ hX2
theorem m_tithes (h : MX B M m X th) (hb : mGb G ≤ m) (p : Int32) (hq : ∀ M, MX B M m X (spTithes X p).1 → Q (.inl (some (.float (spTithes X p).2))) M t u) : mMet G (d + 22) zX8_tithes [.ref m, .int p] M t u Q := by
  refine m_intro (by decide +kernel) ⟨Nat.le_of_ble_eq_true rfl, Nat.le_of_ble_eq_true rfl⟩ ?_
  show mW G _ _ 0 [some (.ref m), some (.int p)] [] _ _ _ _
  obtain ⟨F, A, hM, hP, hR, h6⟩ := h.un
  have hN256 := xN_le hP.1
  unfold spTithes at hq
  first | refine r_aload_n dX8_tithes_0 rfl ?_ | refine r_aload_nq dX8_tithes_0 rfl ?_ | refine r_aload_nN dX8_tithes_0 rfl ?_
  refine r_iload_n dX8_tithes_1 rfl ?_
  refine r_iconst (v := nI 0) dX8_tithes_2 (by decide) ?_
  first | refine r_aload_n dX8_tithes_3 rfl ?_ | refine r_aload_nq dX8_tithes_3 rfl ?_ | refine r_aload_nN dX8_tithes_3 rfl ?_
  refine r_callV s_X8_245_v dX8_tithes_4 (by first | exact MAt.o (by assumption) | exact MAt.a1 (by assumption) | exact MAt.a2 (by assumption) | exact MAt.a3 (by assumption) | exact MAt.a4 (by assumption) | exact MAt.a5 (by assumption) | exact MAt.a6 (by assumption) | exact MAt.a7 (by assumption) | exact MAt.a8 (by assumption) | exact MAt.a9 (by assumption) | exact MAt.a10 (by assumption) | exact MAt.a11 (by assumption) | exact MAt.a12 (by assumption) | exact MAt.a13 (by assumption) | exact MAt.a14 (by assumption) | exact MAt.a15 (by assumption) | exact MAt.a16 (by assumption)) (by rfl) rfl (Nat.le_of_ble_eq_true rfl) (m_pathMany hM hb hP.1.1 hR (fun M F1 A1 hM1 kF kA hme => ?_))
  refine mK_r ?_
  refine r_iconst (v := nI 1) dX8_tithes_7 (by decide) ?_
  have hR1 : mR (xW X) (A1 1) := by rw [kA 1 (by decide)]; exact hR
  have hK1 : MKp F F1 A A1 := MKp.of kF kA
  refine r_isub dX8_tithes_8 ?_
  refine r_callS s_X8_82_s dX8_tithes_9 (by rfl) rfl (Nat.le_of_ble_eq_true rfl) (m_in _ _ _ (nm_e ?_))
  refine mK_r ?_
  first | refine r_if_eq_b (tgt := 19) dX8_tithes_12 (by decide) (fun h12 => ?_) (fun h12 => ?_) | refine r_if_eq_n (tgt := 19) dX8_tithes_12 (by decide) (by omega) (fun h12 => ?_) (fun h12 => ?_) | refine r_if_eq (tgt := 19) dX8_tithes_12 (by decide) (fun h12 => ?_) (fun h12 => ?_)
  · rw [if_pos (by rw [show inB p (xN X) = false from h12]; decide)] at hq
    refine r_iconst (v := nI 1) dX8_tithes_19 (by decide) ?_
    refine r_putf f_X8_64_7 ft_7_6 (by first | exact MAt.o (by assumption) | exact MAt.a1 (by assumption) | exact MAt.a2 (by assumption) | exact MAt.a3 (by assumption) | exact MAt.a4 (by assumption) | exact MAt.a5 (by assumption) | exact MAt.a6 (by assumption) | exact MAt.a7 (by assumption) | exact MAt.a8 (by assumption) | exact MAt.a9 (by assumption) | exact MAt.a10 (by assumption) | exact MAt.a11 (by assumption) | exact MAt.a12 (by assumption) | exact MAt.a13 (by assumption) | exact MAt.a14 (by assumption) | exact MAt.a15 (by assumption) | exact MAt.a16 (by assumption)) (by omega) (by first | rfl | exact bI_nar _) (by first | rfl | exact bI_fit _) dX8_tithes_20 ?_
    refine MAt.p6 (by assumption) (fun M hM => ?_)
    first | refine r_aload_n dX8_tithes_23 rfl ?_ | refine r_aload_nq dX8_tithes_23 rfl ?_ | refine r_aload_nN dX8_tithes_23 rfl ?_
    refine r_getf f_X8_64_7 (by first | exact MAt.o (by assumption) | exact MAt.a1 (by assumption) | exact MAt.a2 (by assumption) | exact MAt.a3 (by assumption) | exact MAt.a4 (by assumption) | exact MAt.a5 (by assumption) | exact MAt.a6 (by assumption) | exact MAt.a7 (by assumption) | exact MAt.a8 (by assumption) | exact MAt.a9 (by assumption) | exact MAt.a10 (by assumption) | exact MAt.a11 (by assumption) | exact MAt.a12 (by assumption) | exact MAt.a13 (by assumption) | exact MAt.a14 (by assumption) | exact MAt.a15 (by assumption) | exact MAt.a16 (by assumption)) (by rfl) dX8_tithes_24 ?_
    rw [fU_eq]
    first | refine r_if_le_n (tgt := 34) dX8_tithes_27 (by decide) (by omega) (fun h27 => by exfalso; omega) (fun h27 => ?_) | refine r_if_le (tgt := 34) dX8_tithes_27 (by decide) (fun h27 => by exfalso; omega) (fun h27 => ?_)
    refine r_fconst0 dX8_tithes_30 ?_
    refine r_goto (tgt := 39) dX8_tithes_31 (by decide) ?_
    refine r_fret rfl dX8_tithes_39 ?_
    exact hq _ (MX.kp hM hP hR (hK1.tr MKp.t6))
  have h12 : inB p (xN X) = true := h12
  obtain ⟨i, hi, rfl⟩ := (inB_iff (by omega)).mp h12
  simp only [h12, not_true_eq_false, if_false, nI_cl (show i < 2147483648 by omega)] at hq
  have hnb : nestB (wso (xW X)) (wn (xW X)) = true := by
    cases hx : nestB (wso (xW X)) (wn (xW X)) with
    | true => rfl
    | false => unfold xN pN at hi; rw [hx] at hi; exact absurd hi (Nat.not_lt_zero i)
  refine r_iconst (v := nI 0) dX8_tithes_15 (by decide) ?_
  refine r_goto (tgt := 20) dX8_tithes_16 (by decide) ?_
  refine r_putf f_X8_64_7 ft_7_6 (by first | exact MAt.o (by assumption) | exact MAt.a1 (by assumption) | exact MAt.a2 (by assumption) | exact MAt.a3 (by assumption) | exact MAt.a4 (by assumption) | exact MAt.a5 (by assumption) | exact MAt.a6 (by assumption) | exact MAt.a7 (by assumption) | exact MAt.a8 (by assumption) | exact MAt.a9 (by assumption) | exact MAt.a10 (by assumption) | exact MAt.a11 (by assumption) | exact MAt.a12 (by assumption) | exact MAt.a13 (by assumption) | exact MAt.a14 (by assumption) | exact MAt.a15 (by assumption) | exact MAt.a16 (by assumption)) (by omega) (by first | rfl | exact bI_nar _) (by first | rfl | exact bI_fit _) dX8_tithes_20 ?_
  refine MAt.p6 (by assumption) (fun M hM => ?_)
  first | refine r_aload_n dX8_tithes_23 rfl ?_ | refine r_aload_nq dX8_tithes_23 rfl ?_ | refine r_aload_nN dX8_tithes_23 rfl ?_
  refine r_getf f_X8_64_7 (by first | exact MAt.o (by assumption) | exact MAt.a1 (by assumption) | exact MAt.a2 (by assumption) | exact MAt.a3 (by assumption) | exact MAt.a4 (by assumption) | exact MAt.a5 (by assumption) | exact MAt.a6 (by assumption) | exact MAt.a7 (by assumption) | exact MAt.a8 (by assumption) | exact MAt.a9 (by assumption) | exact MAt.a10 (by assumption) | exact MAt.a11 (by assumption) | exact MAt.a12 (by assumption) | exact MAt.a13 (by assumption) | exact MAt.a14 (by assumption) | exact MAt.a15 (by assumption) | exact MAt.a16 (by assumption)) (by rfl) dX8_tithes_24 ?_
  rw [fU_eq]
  first | refine r_if_le_n (tgt := 34) dX8_tithes_27 (by decide) (by omega) (fun h27 => ?_) (fun h27 => by exfalso; omega) | refine r_if_le (tgt := 34) dX8_tithes_27 (by decide) (fun h27 => ?_) (fun h27 => by exfalso; omega)
  first | refine r_aload_n dX8_tithes_34 rfl ?_ | refine r_aload_nq dX8_tithes_34 rfl ?_ | refine r_aload_nN dX8_tithes_34 rfl ?_
  refine r_iload_n dX8_tithes_35 rfl ?_
  refine r_callV s_X8_263_v dX8_tithes_36 (by first | exact MAt.o (by assumption) | exact MAt.a1 (by assumption) | exact MAt.a2 (by assumption) | exact MAt.a3 (by assumption) | exact MAt.a4 (by assumption) | exact MAt.a5 (by assumption) | exact MAt.a6 (by assumption) | exact MAt.a7 (by assumption) | exact MAt.a8 (by assumption) | exact MAt.a9 (by assumption) | exact MAt.a10 (by assumption) | exact MAt.a11 (by assumption) | exact MAt.a12 (by assumption) | exact MAt.a13 (by assumption) | exact MAt.a14 (by assumption) | exact MAt.a15 (by assumption) | exact MAt.a16 (by assumption)) (by rfl) rfl (Nat.le_of_ble_eq_true rfl) (m_tithesOf hM hb hP.1.1 hR1 hnb (hme hnb) i hi (fun M F2 A2 hM2 b1 b2 => ?_))
  refine mK_r ?_
  refine r_fret rfl dX8_tithes_39 ?_
  have hK2 : MKp F F2 A A2 := hK1.tr (MKp.t6.tr ⟨b1 3 (by decide) (by decide), b1 5 (by decide) (by decide), b1 7 (by decide) (by decide), b1 26 (by decide) (by decide), b1 28 (by decide) (by decide), b1 29 (by decide) (by decide), b2 1 (by decide), b2 3 (by decide), b2 4 (by decide), b2 14 (by decide), b2 15 (by decide)⟩)
  have f6 : F2 6 = 0 := by rw [b1 6 (by decide) (by decide), fU_eq]
  have hX2 : MX B M m X 0 := by rw [← f6]; exact MX.kp hM2 hP hR hK2
  exact hq _ hX2
/-- path after path is marked -/
theorem m_worth (h : MX B M m X th) (hb : mGb G ≤ m) (gr ag : Bool) (hq : ∀ M, MX B M m X (spWorth X gr).1 → Q (.inl (some (.int (spWorth X gr).2))) M t u) : mMet G (d + 21) zX8_worth [.ref m, .int (bI gr), .int (bI ag)] M t u Q := by
  refine m_intro (by decide +kernel) ⟨Nat.le_of_ble_eq_true rfl, Nat.le_of_ble_eq_true rfl⟩ ?_
  show mW G _ _ 0 [some (.ref m), some (.int (bI gr)), some (.int (bI ag)), none, none, none, none] [] _ _ _ _
  obtain ⟨F, A, hM, hP, hR, h6⟩ := h.un
  have hN256 := xN_le hP.1
  have hwk := hP.1.1
  first | refine r_aload_n dX8_worth_0 rfl ?_ | refine r_aload_nq dX8_worth_0 rfl ?_ | refine r_aload_nN dX8_worth_0 rfl ?_
  refine r_callV s_X8_245_v dX8_worth_1 (by first | exact MAt.o (by assumption) | exact MAt.a1 (by assumption) | exact MAt.a2 (by assumption) | exact MAt.a3 (by assumption) | exact MAt.a4 (by assumption) | exact MAt.a5 (by assumption) | exact MAt.a6 (by assumption) | exact MAt.a7 (by assumption) | exact MAt.a8 (by assumption) | exact MAt.a9 (by assumption) | exact MAt.a10 (by assumption) | exact MAt.a11 (by assumption) | exact MAt.a12 (by assumption) | exact MAt.a13 (by assumption) | exact MAt.a14 (by assumption) | exact MAt.a15 (by assumption) | exact MAt.a16 (by assumption)) (by rfl) rfl (Nat.le_of_ble_eq_true rfl) (m_pathMany hM hb hP.1.1 hR (fun M F1 A1 hM1 kF kA hme => ?_))
  refine mK_r ?_
  have hR1 : mR (xW X) (A1 1) := by rw [kA 1 (by decide)]; exact hR
  have hK1 : MKp F F1 A A1 := MKp.of kF kA
  have hN : pN (wso (xW X)) (wn (xW X)) = xN X := rfl
  rw [hN]
  have hpw : ∀ k, pWo (xW X) k ≤ 99 * 24 := fun k => oWo_le hwk _
  have loop : ∀ n i M F' A' v6, i + n = xN X → MAt B M m F' (xD X) A' → MKp F F' A A' → F' 6 = (spWorth X gr).1 → (nestB (wso (xW X)) (wn (xW X)) = true → me (A' 8) (A' 9) 0 (pT (wso (xW X)) (wn (xW X)))) → mW G zX8_worth (d + 21) 24 [some (.ref m), some (.int (bI gr)), some (.int (bI ag)), some (.int (nI (xN X))), some (.int (nI (bst gr (pWo (xW X)) i))), some (.int (nI i)), v6] [] M t u Q := by
    intro n
    induction n with
    | zero =>
      intro i M F' A' v6 hi hM hK h6 hm
      have hi : i = xN X := by omega
      subst hi
      refine r_iload dX8_worth_24 rfl ?_
      refine r_iload_n dX8_worth_26 rfl ?_
      first | refine r_icmp_ge_n (tgt := 82) dX8_worth_27 (by decide) (by omega) (by omega) (fun h27 => ?_) (fun h27 => by exfalso; omega) | refine r_icmp_ge (tgt := 82) dX8_worth_27 (by decide) (fun h27 => ?_) (fun h27 => by exfalso; omega)
      refine r_iload dX8_worth_82 rfl ?_
      refine r_iret rfl (by first | rfl | exact bI_nar _) dX8_worth_84 ?_
      have hX := MX.kp hM hP hR hK
      rw [h6] at hX
      have e : (spWorth X gr).2 = nI (bst gr (pWo (xW X)) (xN X)) := by
        unfold spWorth
        split
        · rename_i h0; rw [h0]; rfl
        · rfl
      rw [← e]
      exact hq _ hX
    | succ n ih =>
      intro i M F' A' v6 hi hM hK h6 hm
      have hnb : nestB (wso (xW X)) (wn (xW X)) = true := by
        cases hx : nestB (wso (xW X)) (wn (xW X)) with
        | true => rfl
        | false => unfold xN pN at hi; rw [hx] at hi; exact absurd hi (by show ¬ (_ = 0); omega)
      have hR' : mR (xW X) (A' 1) := by obtain ⟨-, -, -, -, -, -, a, -⟩ := hK; rw [a]; exact hR
      have bi := hpw i
      have bb := bst_le (gr := gr) hpw i
      refine r_iload dX8_worth_24 rfl ?_
      refine r_iload_n dX8_worth_26 rfl ?_
      first | refine r_icmp_ge_n (tgt := 82) dX8_worth_27 (by decide) (by omega) (by omega) (fun h27 => by exfalso; omega) (fun h27 => ?_) | refine r_icmp_ge (tgt := 82) dX8_worth_27 (by decide) (fun h27 => by exfalso; omega) (fun h27 => ?_)
      first | refine r_aload_n dX8_worth_30 rfl ?_ | refine r_aload_nq dX8_worth_30 rfl ?_ | refine r_aload_nN dX8_worth_30 rfl ?_
      refine r_iload dX8_worth_31 rfl ?_
      refine r_callV s_X8_249_v dX8_worth_33 (by first | exact MAt.o (by assumption) | exact MAt.a1 (by assumption) | exact MAt.a2 (by assumption) | exact MAt.a3 (by assumption) | exact MAt.a4 (by assumption) | exact MAt.a5 (by assumption) | exact MAt.a6 (by assumption) | exact MAt.a7 (by assumption) | exact MAt.a8 (by assumption) | exact MAt.a9 (by assumption) | exact MAt.a10 (by assumption) | exact MAt.a11 (by assumption) | exact MAt.a12 (by assumption) | exact MAt.a13 (by assumption) | exact MAt.a14 (by assumption) | exact MAt.a15 (by assumption) | exact MAt.a16 (by assumption)) (by rfl) rfl (Nat.le_of_ble_eq_true rfl) (m_marksPath hM hb hP.1.1 hR' hnb (hm hnb) i (by omega) (fun M F2 A2 hM2 b1 b2 b3 b4 => ?_))
      refine mK_v ?_
      first | refine r_aload_n dX8_worth_36 rfl ?_ | refine r_aload_nq dX8_worth_36 rfl ?_ | refine r_aload_nN dX8_worth_36 rfl ?_
      refine r_iconst (v := nI 1) dX8_worth_37 (by decide) ?_
      refine r_callV s_X8_253_v dX8_worth_38 (by first | exact MAt.o (by assumption) | exact MAt.a1 (by assumption) | exact MAt.a2 (by assumption) | exact MAt.a3 (by assumption) | exact MAt.a4 (by assumption) | exact MAt.a5 (by assumption) | exact MAt.a6 (by assumption) | exact MAt.a7 (by assumption) | exact MAt.a8 (by assumption) | exact MAt.a9 (by assumption) | exact MAt.a10 (by assumption) | exact MAt.a11 (by assumption) | exact MAt.a12 (by assumption) | exact MAt.a13 (by assumption) | exact MAt.a14 (by assumption) | exact MAt.a15 (by assumption) | exact MAt.a16 (by assumption)) (by rfl) rfl (Nat.le_of_ble_eq_true rfl) (m_sumOf hM2 hP.1.1 (by rw [b2 1 (by decide)]; exact hR') (pOn (xW X) i) b4 true ?_)
      refine mK_r ?_
      have hK2 : MKp F F2 A A2 := hK.tr ⟨b1 3 (by decide) (by decide), b1 5 (by decide) (by decide), b1 7 (by decide) (by decide), b1 26 (by decide) (by decide), b1 28 (by decide) (by decide), b1 29 (by decide) (by decide), b2 1 (by decide), b2 3 (by decide), b2 4 (by decide), b2 14 (by decide), b2 15 (by decide)⟩
      have f6 : F2 6 = (spWorth X gr).1 := by rw [b1 6 (by decide) (by decide)]; exact h6
      have hm2 : nestB (wso (xW X)) (wn (xW X)) = true → me (A2 8) (A2 9) 0 (pT (wso (xW X)) (wn (xW X))) := by rw [b2 8 (by decide), b2 9 (by decide)]; exact hm
      show mW _ _ _ _ _ [.int (nI (pWo (xW X) i))] _ _ _ _
      have nx : ∀ x, x = bst gr (pWo (xW X)) (i + 1) → mW G zX8_worth (d + 21) 74 [some (.ref m), some (.int (bI gr)), some (.int (bI ag)), some (.int (nI (xN X))), some (.int (nI (bst gr (pWo (xW X)) i))), some (.int (nI i)), some (.int (nI (pWo (xW X) i)))] [.int (nI x)] M t u Q := by
        intro x hx
        subst hx
        refine r_istore dX8_worth_74 (by decide) ?_
        simp only [mst1, mclr]
        first | refine r_iinc_n 1 dX8_worth_76 rfl (by decide) ?_ | refine r_iinc dX8_worth_76 rfl rfl (by decide) ?_
        simp only [mst1, mclr]
        refine r_goto (tgt := 24) dX8_worth_79 (by decide) ?_
        exact ih (i + 1) M F2 A2 _ (by omega) hM2 hK2 f6 hm2
      cases i with
      | zero =>
        refine r_istore dX8_worth_41 (by decide) ?_
        simp only [mst1, mclr]
        refine r_iload dX8_worth_43 rfl ?_
        refine r_if_ne_n (tgt := 53) dX8_worth_45 (by decide) (by omega) (fun h45 => by exfalso; omega) (fun h45 => ?_)
        refine r_iload dX8_worth_48 rfl ?_
        refine r_goto (tgt := 74) dX8_worth_50 (by decide) ?_
        exact nx _ rfl
      | succ i =>
        cases gr with
        | true =>
          refine r_istore dX8_worth_41 (by decide) ?_
          simp only [mst1, mclr]
          refine r_iload dX8_worth_43 rfl ?_
          refine r_if_ne_n (tgt := 53) dX8_worth_45 (by decide) (by omega) (fun h45 => ?_) (fun h45 => by exfalso; omega)
          refine r_iload_n dX8_worth_53 rfl ?_
          refine r_if_eq_b (tgt := 67) dX8_worth_54 (by decide) (fun h54 => absurd h54 (by decide)) (fun h54 => ?_)
          refine r_iload dX8_worth_57 rfl ?_
          refine r_iload dX8_worth_59 rfl ?_
          refine r_callS s_X8_163_s dX8_worth_61 (by rfl) rfl (Nat.le_of_ble_eq_true rfl) (j_max _ _ (by omega) (by omega) ?_)
          refine mK_r ?_
          refine r_goto (tgt := 74) dX8_worth_64 (by decide) ?_
          exact nx _ (by show _ = (if i + 1 = 0 then _ else _); rw [if_neg (by omega), if_pos rfl])
        | false =>
          refine r_istore dX8_worth_41 (by decide) ?_
          simp only [mst1, mclr]
          refine r_iload dX8_worth_43 rfl ?_
          refine r_if_ne_n (tgt := 53) dX8_worth_45 (by decide) (by omega) (fun h45 => ?_) (fun h45 => by exfalso; omega)
          refine r_iload_n dX8_worth_53 rfl ?_
          refine r_if_eq_b (tgt := 67) dX8_worth_54 (by decide) (fun h54 => ?_) (fun h54 => absurd h54 (by decide))
          refine r_iload dX8_worth_67 rfl ?_
          refine r_iload dX8_worth_69 rfl ?_
          refine r_callS s_X8_260_s dX8_worth_71 (by rfl) rfl (Nat.le_of_ble_eq_true rfl) (j_min _ _ (by omega) (by omega) ?_)
          refine mK_r ?_
          exact nx _ (by show _ = (if i + 1 = 0 then _ else _); rw [if_neg (by omega), if_neg (by decide)])
  by_cases h0 : xN X = 0
  · have e : (spWorth X gr).1 = 1 := by unfold spWorth; rw [if_pos h0]
    refine r_istore_n dX8_worth_4 (by decide) ?_
    simp only [mst1, mclr]
    first | refine r_aload_n dX8_worth_5 rfl ?_ | refine r_aload_nq dX8_worth_5 rfl ?_ | refine r_aload_nN dX8_worth_5 rfl ?_
    refine r_iload_n dX8_worth_6 rfl ?_
    refine r_if_ne_n (tgt := 14) dX8_worth_7 (by decide) (by omega) (fun h7 => by exfalso; omega) (fun h7 => ?_)
    refine r_iconst (v := nI 1) dX8_worth_10 (by decide) ?_
    refine r_goto (tgt := 15) dX8_worth_11 (by decide) ?_
    refine r_putf f_X8_64_7 ft_7_6 (by first | exact MAt.o (by assumption) | exact MAt.a1 (by assumption) | exact MAt.a2 (by assumption) | exact MAt.a3 (by assumption) | exact MAt.a4 (by assumption) | exact MAt.a5 (by assumption) | exact MAt.a6 (by assumption) | exact MAt.a7 (by assumption) | exact MAt.a8 (by assumption) | exact MAt.a9 (by assumption) | exact MAt.a10 (by assumption) | exact MAt.a11 (by assumption) | exact MAt.a12 (by assumption) | exact MAt.a13 (by assumption) | exact MAt.a14 (by assumption) | exact MAt.a15 (by assumption) | exact MAt.a16 (by assumption)) (by omega) (by first | rfl | exact bI_nar _) (by first | rfl | exact bI_fit _) dX8_worth_15 ?_
    refine MAt.p6 (by assumption) (fun M hM => ?_)
    refine r_iconst (v := nI 0) dX8_worth_18 (by decide) ?_
    refine r_istore dX8_worth_19 (by decide) ?_
    simp only [mst1, mclr]
    refine r_iconst (v := nI 0) dX8_worth_21 (by decide) ?_
    refine r_istore dX8_worth_22 (by decide) ?_
    simp only [mst1, mclr]
    exact loop (xN X) 0 M _ A1 _ (by omega) hM (hK1.tr MKp.t6) (by rw [e]; exact fU_eq) hme
  · have e : (spWorth X gr).1 = 0 := by unfold spWorth; rw [if_neg h0]
    refine r_istore_n dX8_worth_4 (by decide) ?_
    simp only [mst1, mclr]
    first | refine r_aload_n dX8_worth_5 rfl ?_ | refine r_aload_nq dX8_worth_5 rfl ?_ | refine r_aload_nN dX8_worth_5 rfl ?_
    refine r_iload_n dX8_worth_6 rfl ?_
    refine r_if_ne_n (tgt := 14) dX8_worth_7 (by decide) (by omega) (fun h7 => ?_) (fun h7 => by exfalso; omega)
    refine r_iconst (v := nI 0) dX8_worth_14 (by decide) ?_
    refine r_putf f_X8_64_7 ft_7_6 (by first | exact MAt.o (by assumption) | exact MAt.a1 (by assumption) | exact MAt.a2 (by assumption) | exact MAt.a3 (by assumption) | exact MAt.a4 (by assumption) | exact MAt.a5 (by assumption) | exact MAt.a6 (by assumption) | exact MAt.a7 (by assumption) | exact MAt.a8 (by assumption) | exact MAt.a9 (by assumption) | exact MAt.a10 (by assumption) | exact MAt.a11 (by assumption) | exact MAt.a12 (by assumption) | exact MAt.a13 (by assumption) | exact MAt.a14 (by assumption) | exact MAt.a15 (by assumption) | exact MAt.a16 (by assumption)) (by omega) (by first | rfl | exact bI_nar _) (by first | rfl | exact bI_fit _) dX8_worth_15 ?_
    refine MAt.p6 (by assumption) (fun M hM => ?_)
    refine r_iconst (v := nI 0) dX8_worth_18 (by decide) ?_
    refine r_istore dX8_worth_19 (by decide) ?_
    simp only [mst1, mclr]
    refine r_iconst (v := nI 0) dX8_worth_21 (by decide) ?_
    refine r_istore dX8_worth_22 (by decide) ?_
    simp only [mst1, mclr]
    exact loop (xN X) 0 M _ A1 _ (by omega) hM (hK1.tr MKp.t6) (by rw [e]; exact fU_eq) hme
theorem m_richest (h : MX B M m X th) (hb : mGb G ≤ m) (hq : ∀ M, MX B M m X (spRichest X).1 → Q (.inl (some (.int (spRichest X).2))) M t u) : mMet G (d + 22) zX8_richest [.ref m] M t u Q := by
  refine m_intro (by decide +kernel) ⟨Nat.le_of_ble_eq_true rfl, Nat.le_of_ble_eq_true rfl⟩ ?_
  show mW G _ _ 0 [some (.ref m), none, none, none] [] _ _ _ _
  obtain ⟨F, A, hM, hP, hR, h6⟩ := h.un
  have hN256 := xN_le hP.1
  have hwk := hP.1.1
  first | refine r_aload_n dX8_richest_0 rfl ?_ | refine r_aload_nq dX8_richest_0 rfl ?_ | refine r_aload_nN dX8_richest_0 rfl ?_
  refine r_callV s_X8_245_v dX8_richest_1 (by first | exact MAt.o (by assumption) | exact MAt.a1 (by assumption) | exact MAt.a2 (by assumption) | exact MAt.a3 (by assumption) | exact MAt.a4 (by assumption) | exact MAt.a5 (by assumption) | exact MAt.a6 (by assumption) | exact MAt.a7 (by assumption) | exact MAt.a8 (by assumption) | exact MAt.a9 (by assumption) | exact MAt.a10 (by assumption) | exact MAt.a11 (by assumption) | exact MAt.a12 (by assumption) | exact MAt.a13 (by assumption) | exact MAt.a14 (by assumption) | exact MAt.a15 (by assumption) | exact MAt.a16 (by assumption)) (by rfl) rfl (Nat.le_of_ble_eq_true rfl) (m_pathMany hM hb hP.1.1 hR (fun M F1 A1 hM1 kF kA hme => ?_))
  refine mK_r ?_
  have hR1 : mR (xW X) (A1 1) := by rw [kA 1 (by decide)]; exact hR
  have hK1 : MKp F F1 A A1 := MKp.of kF kA
  have hN : pN (wso (xW X)) (wn (xW X)) = xN X := rfl
  rw [hN]
  have hpt : ∀ k, fP (pTi (xW X) k) := fun k => oTi_p hwk _ (Nat.le_refl _)
  have loop : ∀ n i M F' A', i + 1 + n = xN X → MAt B M m F' (xD X) A' → MKp F F' A A' → F' 6 = 0 → (nestB (wso (xW X)) (wn (xW X)) = true → me (A' 8) (A' 9) 0 (pT (wso (xW X)) (wn (xW X)))) → mW G zX8_richest (d + 22) 22 [some (.ref m), some (.int (nI (xN X))), some (.int (nI (rch (pTi (xW X)) i))), some (.int (nI (i + 1)))] [] M t u Q := by
    intro n
    induction n with
    | zero =>
      intro i M F' A' hi hM hK h6 hm
      have hrl := rch_le (pTi (xW X)) i
      refine r_iload_n dX8_richest_22 rfl ?_
      refine r_iload_n dX8_richest_23 rfl ?_
      first | refine r_icmp_ge_n (tgt := 53) dX8_richest_24 (by decide) (by omega) (by omega) (fun h24 => ?_) (fun h24 => by exfalso; omega) | refine r_icmp_ge (tgt := 53) dX8_richest_24 (by decide) (fun h24 => ?_) (fun h24 => by exfalso; omega)
      refine r_iload_n dX8_richest_53 rfl ?_
      refine r_iret rfl (by first | rfl | exact bI_nar _) dX8_richest_54 ?_
      have hX := MX.kp hM hP hR hK
      rw [h6] at hX
      have e : spRichest X = (0, nI (rch (pTi (xW X)) i)) := by
        unfold spRichest
        rw [if_neg (by omega), show xN X - 1 = i by omega]
      rw [e] at hq
      exact hq _ hX
    | succ n ih =>
      intro i M F' A' hi hM hK h6 hm
      have hrl := rch_le (pTi (xW X)) i
      have hnb : nestB (wso (xW X)) (wn (xW X)) = true := by
        cases hx : nestB (wso (xW X)) (wn (xW X)) with
        | true => rfl
        | false => unfold xN pN at hi; rw [hx] at hi; exact absurd hi (by show ¬ (_ = 0); omega)
      have hR' : mR (xW X) (A' 1) := by obtain ⟨-, -, -, -, -, -, a, -⟩ := hK; rw [a]; exact hR
      refine r_iload_n dX8_richest_22 rfl ?_
      refine r_iload_n dX8_richest_23 rfl ?_
      first | refine r_icmp_ge_n (tgt := 53) dX8_richest_24 (by decide) (by omega) (by omega) (fun h24 => by exfalso; omega) (fun h24 => ?_) | refine r_icmp_ge (tgt := 53) dX8_richest_24 (by decide) (fun h24 => by exfalso; omega) (fun h24 => ?_)
      first | refine r_aload_n dX8_richest_27 rfl ?_ | refine r_aload_nq dX8_richest_27 rfl ?_ | refine r_aload_nN dX8_richest_27 rfl ?_
      refine r_iload_n dX8_richest_28 rfl ?_
      refine r_callV s_X8_263_v dX8_richest_29 (by first | exact MAt.o (by assumption) | exact MAt.a1 (by assumption) | exact MAt.a2 (by assumption) | exact MAt.a3 (by assumption) | exact MAt.a4 (by assumption) | exact MAt.a5 (by assumption) | exact MAt.a6 (by assumption) | exact MAt.a7 (by assumption) | exact MAt.a8 (by assumption) | exact MAt.a9 (by assumption) | exact MAt.a10 (by assumption) | exact MAt.a11 (by assumption) | exact MAt.a12 (by assumption) | exact MAt.a13 (by assumption) | exact MAt.a14 (by assumption) | exact MAt.a15 (by assumption) | exact MAt.a16 (by assumption)) (by rfl) rfl (Nat.le_of_ble_eq_true rfl) (m_tithesOf hM hb hP.1.1 hR' hnb (hm hnb) (i + 1) (by show _ < xN X; omega) (fun M F2 A2 hM2 b1 b2 => ?_))
      refine mK_r ?_
      have hR2 : mR (xW X) (A2 1) := by rw [b2 1 (by decide)]; exact hR'
      have hK2 : MKp F F2 A A2 := hK.tr ⟨b1 3 (by decide) (by decide), b1 5 (by decide) (by decide), b1 7 (by decide) (by decide), b1 26 (by decide) (by decide), b1 28 (by decide) (by decide), b1 29 (by decide) (by decide), b2 1 (by decide), b2 3 (by decide), b2 4 (by decide), b2 14 (by decide), b2 15 (by decide)⟩
      have hm2 : nestB (wso (xW X)) (wn (xW X)) = true → me (A2 8) (A2 9) 0 (pT (wso (xW X)) (wn (xW X))) := by rw [b2 8 (by decide), b2 9 (by decide)]; exact hm
      have f6 : F2 6 = 0 := by rw [b1 6 (by decide) (by decide)]; exact h6
      first | refine r_aload_n dX8_richest_32 rfl ?_ | refine r_aload_nq dX8_richest_32 rfl ?_ | refine r_aload_nN dX8_richest_32 rfl ?_
      refine r_iload_n dX8_richest_33 rfl ?_
      refine r_callV s_X8_263_v dX8_richest_34 (by first | exact MAt.o (by assumption) | exact MAt.a1 (by assumption) | exact MAt.a2 (by assumption) | exact MAt.a3 (by assumption) | exact MAt.a4 (by assumption) | exact MAt.a5 (by assumption) | exact MAt.a6 (by assumption) | exact MAt.a7 (by assumption) | exact MAt.a8 (by assumption) | exact MAt.a9 (by assumption) | exact MAt.a10 (by assumption) | exact MAt.a11 (by assumption) | exact MAt.a12 (by assumption) | exact MAt.a13 (by assumption) | exact MAt.a14 (by assumption) | exact MAt.a15 (by assumption) | exact MAt.a16 (by assumption)) (by rfl) rfl (Nat.le_of_ble_eq_true rfl) (m_tithesOf hM2 hb hP.1.1 hR2 hnb (hm2 hnb) (rch (pTi (xW X)) i) (by show _ < xN X; omega) (fun M F3 A3 hM3 c1 c2 => ?_))
      refine mK_r ?_
      have hK3 : MKp F F3 A A3 := hK2.tr ⟨c1 3 (by decide) (by decide), c1 5 (by decide) (by decide), c1 7 (by decide) (by decide), c1 26 (by decide) (by decide), c1 28 (by decide) (by decide), c1 29 (by decide) (by decide), c2 1 (by decide), c2 3 (by decide), c2 4 (by decide), c2 14 (by decide), c2 15 (by decide)⟩
      have hm3 : nestB (wso (xW X)) (wn (xW X)) = true → me (A3 8) (A3 9) 0 (pT (wso (xW X)) (wn (xW X))) := by rw [c2 8 (by decide), c2 9 (by decide)]; exact hm2
      have f63 : F3 6 = 0 := by rw [c1 6 (by decide) (by decide)]; exact f6
      obtain ⟨o, ho⟩ := fcmp_so (hpt (i + 1)) (hpt (rch (pTi (xW X)) i))
      have nx : mW G zX8_richest (d + 22) 46 [some (.ref m), some (.int (nI (xN X))), some (.int (nI (rch (pTi (xW X)) i))), some (.int (nI (i + 1)))] [.int (nI (rch (pTi (xW X)) (i + 1)))] M t u Q := by
        refine r_istore_n dX8_richest_46 (by decide) ?_
        simp only [mst1, mclr]
        first | refine r_iinc_n 1 dX8_richest_47 rfl (by decide) ?_ | refine r_iinc dX8_richest_47 rfl rfl (by decide) ?_
        simp only [mst1, mclr]
        refine r_goto (tgt := 22) dX8_richest_50 (by decide) ?_
        exact ih (i + 1) M F3 A3 (by omega) hM3 hK3 f63 hm3
      refine r_fcmp dX8_richest_37 ?_
      rw [cv_ne ho]
      have eg : rch (pTi (xW X)) (i + 1) = if fGt (pTi (xW X) (i + 1)) (pTi (xW X) (rch (pTi (xW X)) i)) = true then i + 1 else rch (pTi (xW X)) i := rfl
      unfold fGt at eg
      rw [ho] at eg
      cases o with
      | gt =>
        refine r_if_le (tgt := 45) dX8_richest_38 (by decide) (fun h => absurd h (by decide)) (fun h => ?_)
        rw [if_pos (by decide)] at eg
        rw [eg] at nx
        refine r_iload_n dX8_richest_41 rfl ?_
        refine r_goto (tgt := 46) dX8_richest_42 (by decide) ?_
        exact nx
      | lt =>
        refine r_if_le (tgt := 45) dX8_richest_38 (by decide) (fun h => ?_) (fun h => absurd (by decide) h)
        rw [if_neg (by decide)] at eg
        rw [eg] at nx
        refine r_iload_n dX8_richest_45 rfl ?_
        exact nx
      | eq =>
        refine r_if_le (tgt := 45) dX8_richest_38 (by decide) (fun h => ?_) (fun h => absurd (by decide) h)
        rw [if_neg (by decide)] at eg
        rw [eg] at nx
        refine r_iload_n dX8_richest_45 rfl ?_
        exact nx
  by_cases h0 : xN X = 0
  · have e : spRichest X = (1, 0) := by unfold spRichest; rw [if_pos h0]
    rw [e] at hq
    refine r_istore_n dX8_richest_4 (by decide) ?_
    simp only [mst1, mclr]
    first | refine r_aload_n dX8_richest_5 rfl ?_ | refine r_aload_nq dX8_richest_5 rfl ?_ | refine r_aload_nN dX8_richest_5 rfl ?_
    refine r_iload_n dX8_richest_6 rfl ?_
    refine r_if_ne_n (tgt := 14) dX8_richest_7 (by decide) (by omega) (fun h7 => by exfalso; omega) (fun h7 => ?_)
    refine r_iconst (v := nI 1) dX8_richest_10 (by decide) ?_
    refine r_goto (tgt := 15) dX8_richest_11 (by decide) ?_
    refine r_putf f_X8_64_7 ft_7_6 (by first | exact MAt.o (by assumption) | exact MAt.a1 (by assumption) | exact MAt.a2 (by assumption) | exact MAt.a3 (by assumption) | exact MAt.a4 (by assumption) | exact MAt.a5 (by assumption) | exact MAt.a6 (by assumption) | exact MAt.a7 (by assumption) | exact MAt.a8 (by assumption) | exact MAt.a9 (by assumption) | exact MAt.a10 (by assumption) | exact MAt.a11 (by assumption) | exact MAt.a12 (by assumption) | exact MAt.a13 (by assumption) | exact MAt.a14 (by assumption) | exact MAt.a15 (by assumption) | exact MAt.a16 (by assumption)) (by omega) (by first | rfl | exact bI_nar _) (by first | rfl | exact bI_fit _) dX8_richest_15 ?_
    refine MAt.p6 (by assumption) (fun M hM => ?_)
    refine r_iconst (v := nI 0) dX8_richest_18 (by decide) ?_
    refine r_istore_n dX8_richest_19 (by decide) ?_
    simp only [mst1, mclr]
    refine r_iconst (v := nI 1) dX8_richest_20 (by decide) ?_
    refine r_istore_n dX8_richest_21 (by decide) ?_
    simp only [mst1, mclr]
    refine r_iload_n dX8_richest_22 rfl ?_
    refine r_iload_n dX8_richest_23 rfl ?_
    first | refine r_icmp_ge_n (tgt := 53) dX8_richest_24 (by decide) (by omega) (by omega) (fun h24 => ?_) (fun h24 => by exfalso; omega) | refine r_icmp_ge (tgt := 53) dX8_richest_24 (by decide) (fun h24 => ?_) (fun h24 => by exfalso; omega)
    refine r_iload_n dX8_richest_53 rfl ?_
    refine r_iret rfl (by first | rfl | exact bI_nar _) dX8_richest_54 ?_
    have hX := MX.kp hM hP hR (hK1.tr (MKp.t6 (k := 1)))
    exact hq _ hX
  · refine r_istore_n dX8_richest_4 (by decide) ?_
    simp only [mst1, mclr]
    first | refine r_aload_n dX8_richest_5 rfl ?_ | refine r_aload_nq dX8_richest_5 rfl ?_ | refine r_aload_nN dX8_richest_5 rfl ?_
    refine r_iload_n dX8_richest_6 rfl ?_
    refine r_if_ne_n (tgt := 14) dX8_richest_7 (by decide) (by omega) (fun h7 => ?_) (fun h7 => by exfalso; omega)
    refine r_iconst (v := nI 0) dX8_richest_14 (by decide) ?_
    refine r_putf f_X8_64_7 ft_7_6 (by first | exact MAt.o (by assumption) | exact MAt.a1 (by assumption) | exact MAt.a2 (by assumption) | exact MAt.a3 (by assumption) | exact MAt.a4 (by assumption) | exact MAt.a5 (by assumption) | exact MAt.a6 (by assumption) | exact MAt.a7 (by assumption) | exact MAt.a8 (by assumption) | exact MAt.a9 (by assumption) | exact MAt.a10 (by assumption) | exact MAt.a11 (by assumption) | exact MAt.a12 (by assumption) | exact MAt.a13 (by assumption) | exact MAt.a14 (by assumption) | exact MAt.a15 (by assumption) | exact MAt.a16 (by assumption)) (by omega) (by first | rfl | exact bI_nar _) (by first | rfl | exact bI_fit _) dX8_richest_15 ?_
    refine MAt.p6 (by assumption) (fun M hM => ?_)
    refine r_iconst (v := nI 0) dX8_richest_18 (by decide) ?_
    refine r_istore_n dX8_richest_19 (by decide) ?_
    simp only [mst1, mclr]
    refine r_iconst (v := nI 1) dX8_richest_20 (by decide) ?_
    refine r_istore_n dX8_richest_21 (by decide) ?_
    simp only [mst1, mclr]
    exact loop (xN X - 1) 0 M _ A1 (by omega) hM (hK1.tr MKp.t6) fU_eq hme
end PATHS2
