/-! ===== the model goes through clauses ===== -/
theorem cntF_le' (P : Nat → Bool) (n : Nat) : cntF P n ≤ n := cntF_le P n
theorem zLeft_congr {m m' dp dp' : Nat} {k k' : Nat → Nat} {z z' : ZR} (hm : m = m') (hk : ∀ g, g < m → k g = k' g) (hz : ∀ j, j < 31 → z j = z' j) (hd : dp = dp') : zLeft m k z dp = zLeft m' k' z' dp' := by
  subst hm hd
  unfold zLeft
  refine loF_congr (fun g h1 h2 => ?_)
  unfold zLP
  rw [hz g (by omega), hz (8 + g) (by omega)]
  by_cases h : g < m
  · rw [hk g h]
  · simp only [h, false_and]
theorem zEnd_congr {z z' : ZR} {dp dp' : Nat} (hz : ∀ j, j < 31 → z j = z' j) (hd : dp = dp') {j : Nat} (hj : j < 31) : zEnd z dp j = zEnd z' dp' j := by
  subst hd
  unfold zEnd
  rw [hz j hj]
  by_cases h1 : j < 8
  · simp only [h1, true_and, hz (8 + j) (by omega), show ¬ (16 ≤ j ∧ j < 21) by omega, false_and]
  · by_cases h3 : 16 ≤ j ∧ j < 21
    · simp only [h1, h3, false_and, and_self, true_and, hz (10 + j) (by omega)]
    · simp only [h1, h3, false_and]
theorem zOn_congr {z z' : ZR} {g : Nat} {w : Bool} (hz : ∀ j, j < 31 → z j = z' j) : zOn z g w = zOn z' g w := by
  unfold zOn
  refine cntF_congr (fun p hp => ?_)
  rw [hz (16 + p) (by omega), hz (21 + p) (by omega)]
theorem zUn_congr {m m' : Nat} {k k' : Nat → Nat} {z z' f f' : ZR} (hm : m = m') (hm8 : m ≤ 8) (hk : ∀ g, g < m → k g = k' g) (hz : ∀ j, j < 31 → z j = z' j) (hf : ∀ j, j < 31 → f j = f' j) : zUn m k z f = zUn m' k' z' f' := by
  subst hm
  unfold zUn
  refine loF_congr (fun g h1 h2 => ?_)
  unfold zUP
  rw [hk g (by omega), hz g (by omega), hf g (by omega)]
theorem zMeet_congr {m m' : Nat} {z z' f f' : ZR} (hm : m = m') (hm8 : m ≤ 8) (hz : ∀ j, j < 31 → z j = z' j) (hf : ∀ j, j < 31 → f j = f' j) {j : Nat} (hj : j < 31) : zMeet m z f j = zMeet m' z' f' j := by
  subst hm
  unfold zMeet
  rw [hz j hj, hf j hj, hz (j - 8) (by omega), hf (j - 8) (by omega)]
theorem zEnd_le {z : ZR} {dp j : Nat} (h : z j ≤ 30) : zEnd z dp j ≤ 30 := by
  unfold zEnd; split
  · omega
  · split <;> omega
theorem zMeet_le {m : Nat} {z f : ZR} {j : Nat} (h : z j ≤ 30) (h' : f j ≤ 30) : zMeet m z f j ≤ 30 := by
  unfold zMeet; split
  · omega
  · split <;> omega
/-- the model's rows hold what is open; on a path nothing is kept of what was so -/
def zSt (A : Nat → Nat → Nat) (pa : Bool) : List (Nat × ZR × ZR) → Prop
  | [] => True
  | (e, a, b) :: r => A 5 r.length = e ∧ (e = 8 → pa = false → ∀ j, j < 31 → A 11 (31 * (r.length + 1) + j) = a j) ∧ (e = 9 → pa = false → ∀ j, j < 31 → A 12 (31 * (r.length + 1) + j) = b j) ∧ (∀ j, j < 31 → a j ≤ 30 ∧ b j ≤ 30) ∧ (e = 1 ∨ e = 8 ∨ e = 9) ∧ zSt A pa r
theorem zSt_up {A A' : Nat → Nat → Nat} {pa : Bool} : ∀ {st : List (Nat × ZR × ZR)}, (∀ i, i < st.length → A' 5 i = A 5 i) → (∀ j, j < 31 * (st.length + 1) → A' 11 j = A 11 j ∧ A' 12 j = A 12 j) → zSt A pa st → zSt A' pa st
  | [], _, _, _ => trivial
  | (e, a, b) :: r, h5, hj, ⟨h1, h2, h3, h4, h6, h7⟩ => by
    simp only [List.length_cons] at h5 hj
    refine ⟨by rw [h5 _ (by omega)]; exact h1, fun x y j hh => ?_, fun x y j hh => ?_, h4, h6, zSt_up (fun i hi => h5 i (by omega)) (fun j hh => hj j (by omega)) h7⟩
    · rw [(hj _ (by omega)).1]; exact h2 x y j hh
    · rw [(hj _ (by omega)).2]; exact h3 x y j hh
/-- the model's rows hold what is so, after k clauses -/
def ZM (F : Nat → Nat) (A : Nat → Nat → Nat) (pa : Bool) (k : Nat) (Z : ZT) : Prop := F 18 = Z.2.length ∧ (∀ j, j < 31 → A 10 j = Z.1 j) ∧ (∀ j, j < 31 → Z.1 j ≤ 30) ∧ zSt A pa Z.2 ∧ Z.2.length ≤ k
def WKp (F F' : Nat → Nat) (A A' : Nat → Nat → Nat) : Prop := (∀ i, (i < 18 ∨ 21 < i) → F' i = F i) ∧ ∀ i, i ≠ 5 → i ≠ 10 → i ≠ 11 → i ≠ 12 → A' i = A i
section WALK3
variable {G : mG} {y : mY} {d pc : Nat} {L : List (Option Value)} {st : List Value} {B M : mM} {m t u th : Nat} {X : XT} {F : Nat → Nat} {D : Int32} {A : Nat → Nat → Nat} {Q : mQt}
theorem WKp.refl : WKp F F A A := ⟨fun _ _ => rfl, fun _ _ _ _ _ => rfl⟩
theorem WKp.tr {F' F'' : Nat → Nat} {A' A'' : Nat → Nat → Nat} (h : WKp F F' A A') (g : WKp F' F'' A' A'') : WKp F F'' A A'' := ⟨fun i hi => (g.1 i hi).trans (h.1 i hi), fun i h1 h2 h3 h4 => (g.2 i h1 h2 h3 h4).trans (h.2 i h1 h2 h3 h4)⟩
theorem WKp.er (r k w : Nat) : WKp F (fU (fU (fU F 19 r) 20 k) 21 w) A A := ⟨fun i hi => by rw [fU_ne (by omega), fU_ne (by omega), fU_ne (by omega)], fun _ _ _ _ _ => rfl⟩
theorem WKp.a10 (f : Nat → Nat) : WKp F F A (fA A 10 f) := ⟨fun _ _ => rfl, fun i _ h _ _ => fA_ne h⟩
theorem m_goes (h : MAt B M m F D A) (hb : mGb G ≤ m) {W : WT} (hw : wOk W) (hR : mR W (A 1)) (pa : Bool) (k : Nat) (hk : k < wn W) {Z : ZT} (hZ : ZM F A pa k Z)
   (hE : ∀ e, zStep W pa k Z = .inl e → ∀ M F' A', MAt B M m F' D A' → WKp F F' A A' → F' 19 = e.1 → F' 20 = e.2.1 → F' 21 = e.2.2 → Q (.inl (some (.int (bI false)))) M t u)
   (hN : ∀ Z', zStep W pa k Z = .inr Z' → ∀ M F' A', MAt B M m F' D A' → WKp F F' A A' → F' 19 = F 19 → F' 20 = F 20 → F' 21 = F 21 → ZM F' A' pa (k + 1) Z' → Q (.inl (some (.int (bI true)))) M t u) : mMet G (d + 3) zX8_goes [.ref m, .int (nI k), .int (bI pa)] M t u Q := by
  refine m_intro (by decide +kernel) ⟨Nat.le_of_ble_eq_true rfl, Nat.le_of_ble_eq_true rfl⟩ ?_
  show mW G _ _ 0 [some (.ref m), some (.int (nI k)), some (.int (bI pa)), none, none] [] _ _ _ _
  obtain ⟨⟨e0, hm⟩, ⟨e1, hn⟩, ⟨e2, hcg⟩, e3, e4, e5⟩ := mR_up hw hR
  obtain ⟨s1, s2, s3, c1, c2, c3, c4, c5, c6⟩ := e5 k hk
  obtain ⟨z, st⟩ := Z
  obtain ⟨z18, zj, zb, zst, zl⟩ := hZ
  have zj : ∀ j, j < 31 → A 10 j = z j := zj
  have zb : ∀ j, j < 31 → z j ≤ 30 := zb
  have zl : st.length ≤ k := zl
  have z18 : F 18 = st.length := z18
  have zst : zSt A pa st := zst
  have hz30 : ∀ j, j < 31 → A 10 j ≤ 30 := fun j hj => by rw [zj j hj]; exact zb j hj
  have hk3 : ∀ g, g < A 1 0 → A 1 (21 + g) < 3 := fun g hg => by have := e4 g (by omega); omega
  have hkW : ∀ g, g < A 1 0 → A 1 (21 + g) = wk W g := fun g hg => (e4 g (by omega)).1
  -- behind a clause that ends what is innermost
  have ends : ∀ s, wso W k = s → isEn s = true → (∀ a b r, st = (s, a, b) :: r → mW G zX8_goes (d + 3) 65 [some (.ref m), some (.int (nI k)), some (.int (bI pa)), some (.int (nI s)), some (.int (nI 1))] [] M t u Q) →
      mW G zX8_goes (d + 3) 23 [some (.ref m), some (.int (nI k)), some (.int (bI pa)), some (.int (nI s)), none] [] M t u Q := by
    intro s hs hEn kk
    have hs' := of_decide_eq_true hEn
    have n0 : ¬ wso W k = 0 := by omega
    have n7 : ¬ wso W k = 7 := by omega
    have nE : isEn (wso W k) = true := by rw [hs]; exact hEn
    have err : zStep W pa k (z, st) = .inl (1, k + 1, wso W k + 1) → mW G zX8_goes (d + 3) 57 [some (.ref m), some (.int (nI k)), some (.int (bI pa)), some (.int (nI s)), some (.int (nI 1))] [] M t u Q := by
      intro hx
      first | refine r_aload_n dX8_goes_57 rfl ?_ | refine r_aload_nq dX8_goes_57 rfl ?_ | refine r_aload_nN dX8_goes_57 rfl ?_
      refine r_iconst (v := nI 1) dX8_goes_58 (by decide) ?_
      refine r_iload_n dX8_goes_59 rfl ?_
      refine r_iload_n dX8_goes_60 rfl ?_
      refine r_callV s_X8_188_v dX8_goes_61 (by first | exact MAt.o (by assumption) | exact MAt.a1 (by assumption) | exact MAt.a2 (by assumption) | exact MAt.a3 (by assumption) | exact MAt.a4 (by assumption) | exact MAt.a5 (by assumption) | exact MAt.a6 (by assumption) | exact MAt.a7 (by assumption) | exact MAt.a8 (by assumption) | exact MAt.a9 (by assumption) | exact MAt.a10 (by assumption) | exact MAt.a11 (by assumption) | exact MAt.a12 (by assumption) | exact MAt.a13 (by assumption) | exact MAt.a14 (by assumption) | exact MAt.a15 (by assumption) | exact MAt.a16 (by assumption)) (by rfl) rfl (Nat.le_of_ble_eq_true rfl) (m_errs h hb 1 (k + 1) (s + 1) (fun M hM => ?_))
      refine mK_r ?_
      refine r_iret rfl (by first | rfl | exact bI_nar _) dX8_goes_64 ?_
      exact hE _ hx _ _ _ hM (WKp.er _ _ _) rfl rfl (by rw [hs]; rfl)
    cases st with
    | nil =>
      have z18 : F 18 = 0 := z18
      refine r_iconst (v := nI 1) dX8_goes_23 (by decide) ?_
      refine r_goto (tgt := 28) dX8_goes_24 (by decide) ?_
      refine r_istore dX8_goes_28 (by decide) ?_
      simp only [mst1, mclr]
      refine r_iload dX8_goes_30 rfl ?_
      refine r_if_eq_n (tgt := 65) dX8_goes_32 (by decide) (by omega) (fun h32 => by exfalso; omega) (fun h32 => ?_)
      first | refine r_aload_n dX8_goes_35 rfl ?_ | refine r_aload_nq dX8_goes_35 rfl ?_ | refine r_aload_nN dX8_goes_35 rfl ?_
      refine r_getf f_X8_173_7 (by first | exact MAt.o (by assumption) | exact MAt.a1 (by assumption) | exact MAt.a2 (by assumption) | exact MAt.a3 (by assumption) | exact MAt.a4 (by assumption) | exact MAt.a5 (by assumption) | exact MAt.a6 (by assumption) | exact MAt.a7 (by assumption) | exact MAt.a8 (by assumption) | exact MAt.a9 (by assumption) | exact MAt.a10 (by assumption) | exact MAt.a11 (by assumption) | exact MAt.a12 (by assumption) | exact MAt.a13 (by assumption) | exact MAt.a14 (by assumption) | exact MAt.a15 (by assumption) | exact MAt.a16 (by assumption)) (by rfl) dX8_goes_36 ?_
      refine r_if_eq_n (tgt := 57) dX8_goes_39 (by decide) (by omega) (fun h39 => ?_) (fun h39 => by exfalso; omega)
      exact err (by unfold zStep; rw [if_neg n0, if_neg n7, if_pos nE])
    | cons q r =>
      obtain ⟨e, a, b⟩ := q
      simp only [List.length_cons] at z18 zl
      have he5 : A 5 r.length = e := zst.1
      have hx : A 5 (F 18 - 1) = e := by rw [z18]; exact he5
      have hee : e = 1 ∨ e = 8 ∨ e = 9 := zst.2.2.2.2.1
      refine r_iconst (v := nI 1) dX8_goes_23 (by decide) ?_
      refine r_goto (tgt := 28) dX8_goes_24 (by decide) ?_
      refine r_istore dX8_goes_28 (by decide) ?_
      simp only [mst1, mclr]
      refine r_iload dX8_goes_30 rfl ?_
      refine r_if_eq_n (tgt := 65) dX8_goes_32 (by decide) (by omega) (fun h32 => by exfalso; omega) (fun h32 => ?_)
      first | refine r_aload_n dX8_goes_35 rfl ?_ | refine r_aload_nq dX8_goes_35 rfl ?_ | refine r_aload_nN dX8_goes_35 rfl ?_
      refine r_getf f_X8_173_7 (by first | exact MAt.o (by assumption) | exact MAt.a1 (by assumption) | exact MAt.a2 (by assumption) | exact MAt.a3 (by assumption) | exact MAt.a4 (by assumption) | exact MAt.a5 (by assumption) | exact MAt.a6 (by assumption) | exact MAt.a7 (by assumption) | exact MAt.a8 (by assumption) | exact MAt.a9 (by assumption) | exact MAt.a10 (by assumption) | exact MAt.a11 (by assumption) | exact MAt.a12 (by assumption) | exact MAt.a13 (by assumption) | exact MAt.a14 (by assumption) | exact MAt.a15 (by assumption) | exact MAt.a16 (by assumption)) (by rfl) dX8_goes_36 ?_
      refine r_if_eq_n (tgt := 57) dX8_goes_39 (by decide) (by omega) (fun h39 => by exfalso; omega) (fun h39 => ?_)
      first | refine r_aload_n dX8_goes_42 rfl ?_ | refine r_aload_nq dX8_goes_42 rfl ?_ | refine r_aload_nN dX8_goes_42 rfl ?_
      refine r_getf f_X8_22_7 (by first | exact MAt.o (by assumption) | exact MAt.a1 (by assumption) | exact MAt.a2 (by assumption) | exact MAt.a3 (by assumption) | exact MAt.a4 (by assumption) | exact MAt.a5 (by assumption) | exact MAt.a6 (by assumption) | exact MAt.a7 (by assumption) | exact MAt.a8 (by assumption) | exact MAt.a9 (by assumption) | exact MAt.a10 (by assumption) | exact MAt.a11 (by assumption) | exact MAt.a12 (by assumption) | exact MAt.a13 (by assumption) | exact MAt.a14 (by assumption) | exact MAt.a15 (by assumption) | exact MAt.a16 (by assumption)) (by rfl) dX8_goes_43 ?_
      first | refine r_aload_n dX8_goes_46 rfl ?_ | refine r_aload_nq dX8_goes_46 rfl ?_ | refine r_aload_nN dX8_goes_46 rfl ?_
      refine r_getf f_X8_173_7 (by first | exact MAt.o (by assumption) | exact MAt.a1 (by assumption) | exact MAt.a2 (by assumption) | exact MAt.a3 (by assumption) | exact MAt.a4 (by assumption) | exact MAt.a5 (by assumption) | exact MAt.a6 (by assumption) | exact MAt.a7 (by assumption) | exact MAt.a8 (by assumption) | exact MAt.a9 (by assumption) | exact MAt.a10 (by assumption) | exact MAt.a11 (by assumption) | exact MAt.a12 (by assumption) | exact MAt.a13 (by assumption) | exact MAt.a14 (by assumption) | exact MAt.a15 (by assumption) | exact MAt.a16 (by assumption)) (by rfl) dX8_goes_47 ?_
      refine r_iconst (v := nI 1) dX8_goes_50 (by decide) ?_
      first | refine r_isub_n dX8_goes_51 (by omega) ?_ | refine r_isub dX8_goes_51 ?_
      refine r_iald_n (by first | exact MAt.o (by assumption) | exact MAt.a1 (by assumption) | exact MAt.a2 (by assumption) | exact MAt.a3 (by assumption) | exact MAt.a4 (by assumption) | exact MAt.a5 (by assumption) | exact MAt.a6 (by assumption) | exact MAt.a7 (by assumption) | exact MAt.a8 (by assumption) | exact MAt.a9 (by assumption) | exact MAt.a10 (by assumption) | exact MAt.a11 (by assumption) | exact MAt.a12 (by assumption) | exact MAt.a13 (by assumption) | exact MAt.a14 (by assumption) | exact MAt.a15 (by assumption) | exact MAt.a16 (by assumption)) (by rfl) (by omega) (by omega) dX8_goes_52 ?_
      refine r_iload_n dX8_goes_53 rfl ?_
      first | refine r_icmp_eq_n (tgt := 65) dX8_goes_54 (by decide) (by omega) (by omega) (fun h54 => ?_) (fun h54 => ?_) | refine r_icmp_eq_pn (tgt := 65) dX8_goes_54 (by decide) (by omega) (by omega) (fun h54 => ?_) (fun h54 => ?_) | refine r_icmp_eq_pm (tgt := 65) dX8_goes_54 (by decide) (by omega) (fun h54 => ?_) (fun h54 => ?_) | refine r_icmp_eq (tgt := 65) dX8_goes_54 (by decide) (fun h54 => ?_) (fun h54 => ?_)
      · have : e = s := by omega
        subst this
        exact kk a b r rfl
      · refine err ?_
        unfold zStep
        rw [if_neg n0, if_neg n7, if_pos nE]
        show (if e ≠ wso W k then _ else _) = _
        rw [if_pos (by omega)]
  have noEnd : ∀ s, mW G zX8_goes (d + 3) 65 [some (.ref m), some (.int (nI k)), some (.int (bI pa)), some (.int (nI s)), some (.int (nI 0))] [] M t u Q → mW G zX8_goes (d + 3) 27 [some (.ref m), some (.int (nI k)), some (.int (bI pa)), some (.int (nI s)), none] [] M t u Q := by
    intro s kk
    refine r_iconst (v := nI 0) dX8_goes_27 (by decide) ?_
    refine r_istore dX8_goes_28 (by decide) ?_
    simp only [mst1, mclr]
    refine r_iload dX8_goes_30 rfl ?_
    refine r_if_eq_n (tgt := 65) dX8_goes_32 (by decide) (by omega) (fun h32 => ?_) (fun h32 => by exfalso; omega)
    exact kk
  have hLe : ∀ dp, F 18 = dp → zLeft (A 1 0) (fun g => A 1 (21 + g)) (A 10) (F 18) = zLeft (wm W) (wk W) z dp := fun dp hd => zLeft_congr e0 hkW zj hd
  first | refine r_aload_n dX8_goes_0 rfl ?_ | refine r_aload_nq dX8_goes_0 rfl ?_ | refine r_aload_nN dX8_goes_0 rfl ?_
  refine r_iload_n dX8_goes_1 rfl ?_
  refine r_callV s_X8_110_v dX8_goes_2 (by first | exact MAt.o (by assumption) | exact MAt.a1 (by assumption) | exact MAt.a2 (by assumption) | exact MAt.a3 (by assumption) | exact MAt.a4 (by assumption) | exact MAt.a5 (by assumption) | exact MAt.a6 (by assumption) | exact MAt.a7 (by assumption) | exact MAt.a8 (by assumption) | exact MAt.a9 (by assumption) | exact MAt.a10 (by assumption) | exact MAt.a11 (by assumption) | exact MAt.a12 (by assumption) | exact MAt.a13 (by assumption) | exact MAt.a14 (by assumption) | exact MAt.a15 (by assumption) | exact MAt.a16 (by assumption)) (by rfl) rfl (Nat.le_of_ble_eq_true rfl) (m_sort h k (by omega) ?_)
  refine mK_r ?_
  obtain hs | hs | hs | hs | hs | hs | hs | hs | hs | hs : wso W k = 0 ∨ wso W k = 1 ∨ wso W k = 2 ∨ wso W k = 3 ∨ wso W k = 4 ∨ wso W k = 5 ∨ wso W k = 6 ∨ wso W k = 7 ∨ wso W k = 8 ∨ wso W k = 9 := by omega
  · rw [s1, hs]
    have hst : zStep W pa k (z, st) = .inr (z, (1, z, z) :: st) := by unfold zStep; rw [if_pos hs]
    refine r_istore_n dX8_goes_5 (by decide) ?_
    simp only [mst1, mclr]
    refine r_iload_n dX8_goes_6 rfl ?_
    refine r_iconst (v := nI 1) dX8_goes_7 (by decide) ?_
    first | refine r_icmp_eq_n (tgt := 23) dX8_goes_8 (by decide) (by omega) (by omega) (fun h8 => by exfalso; omega) (fun h8 => ?_) | refine r_icmp_eq_pn (tgt := 23) dX8_goes_8 (by decide) (by omega) (by omega) (fun h8 => by exfalso; omega) (fun h8 => ?_) | refine r_icmp_eq_pm (tgt := 23) dX8_goes_8 (by decide) (by omega) (fun h8 => by exfalso; omega) (fun h8 => ?_) | refine r_icmp_eq (tgt := 23) dX8_goes_8 (by decide) (fun h8 => by exfalso; omega) (fun h8 => ?_)
    refine r_iload_n dX8_goes_11 rfl ?_
    refine r_bipush (v := nI 8) dX8_goes_12 (by decide) ?_
    first | refine r_icmp_eq_n (tgt := 23) dX8_goes_14 (by decide) (by omega) (by omega) (fun h14 => by exfalso; omega) (fun h14 => ?_) | refine r_icmp_eq_pn (tgt := 23) dX8_goes_14 (by decide) (by omega) (by omega) (fun h14 => by exfalso; omega) (fun h14 => ?_) | refine r_icmp_eq_pm (tgt := 23) dX8_goes_14 (by decide) (by omega) (fun h14 => by exfalso; omega) (fun h14 => ?_) | refine r_icmp_eq (tgt := 23) dX8_goes_14 (by decide) (fun h14 => by exfalso; omega) (fun h14 => ?_)
    refine r_iload_n dX8_goes_17 rfl ?_
    refine r_bipush (v := nI 9) dX8_goes_18 (by decide) ?_
    first | refine r_icmp_ne_n (tgt := 27) dX8_goes_20 (by decide) (by omega) (by omega) (fun h20 => ?_) (fun h20 => by exfalso; omega) | refine r_icmp_ne_pn (tgt := 27) dX8_goes_20 (by decide) (by omega) (by omega) (fun h20 => ?_) (fun h20 => by exfalso; omega) | refine r_icmp_ne_pm (tgt := 27) dX8_goes_20 (by decide) (by omega) (fun h20 => ?_) (fun h20 => by exfalso; omega) | refine r_icmp_ne (tgt := 27) dX8_goes_20 (by decide) (fun h20 => ?_) (fun h20 => by exfalso; omega)
    refine noEnd 0 ?_
    refine r_iload_n dX8_goes_65 rfl ?_
    refine r_tableIn (off := 50) (tgt := 116) dX8_goes_66 (by decide) (by decide) (by decide) (by decide) ?_
    first | refine r_aload_n dX8_goes_116 rfl ?_ | refine r_aload_nq dX8_goes_116 rfl ?_ | refine r_aload_nN dX8_goes_116 rfl ?_
    refine r_iconst (v := nI 1) dX8_goes_117 (by decide) ?_
    refine r_iload_n dX8_goes_118 rfl ?_
    refine r_callV s_X8_195_v dX8_goes_119 (by first | exact MAt.o (by assumption) | exact MAt.a1 (by assumption) | exact MAt.a2 (by assumption) | exact MAt.a3 (by assumption) | exact MAt.a4 (by assumption) | exact MAt.a5 (by assumption) | exact MAt.a6 (by assumption) | exact MAt.a7 (by assumption) | exact MAt.a8 (by assumption) | exact MAt.a9 (by assumption) | exact MAt.a10 (by assumption) | exact MAt.a11 (by assumption) | exact MAt.a12 (by assumption) | exact MAt.a13 (by assumption) | exact MAt.a14 (by assumption) | exact MAt.a15 (by assumption) | exact MAt.a16 (by assumption)) (by rfl) rfl (Nat.le_of_ble_eq_true rfl) (m_opens h hb 1 k (by omega) (by omega) (fun M A' hM o5 o8 oi o11 => ?_))
    refine mK_v ?_
    refine r_iconst (v := nI 1) dX8_goes_122 (by decide) ?_
    refine r_iret rfl (by first | rfl | exact bI_nar _) dX8_goes_123 ?_
    refine hN _ hst _ _ _ hM ⟨fun i hi => fU_ne (by omega), fun i h5 h10 h11 h12 => oi i h5 h11⟩ rfl rfl rfl ⟨?_, ?_, zb, ⟨?_, fun h => absurd h (by decide), fun h => absurd h (by decide), fun j hj => ⟨zb j hj, zb j hj⟩, Or.inl rfl, ?_⟩, ?_⟩
    · rw [fU_eq, z18]; rfl
    · intro j hj; rw [oi 10 (by decide) (by decide)]; exact zj j hj
    · rw [o5, z18, fU_eq]
    · refine zSt_up (fun i hi => ?_) (fun j hj => ⟨?_, ?_⟩) zst
      · rw [o5, fU_ne (by omega)]
      · exact o11 j (Or.inl (by rw [z18]; exact hj))
      · rw [oi 12 (by decide) (by decide)]
    · show st.length + 1 ≤ k + 1; omega
  · rw [s1, hs]
    refine r_istore_n dX8_goes_5 (by decide) ?_
    simp only [mst1, mclr]
    refine r_iload_n dX8_goes_6 rfl ?_
    refine r_iconst (v := nI 1) dX8_goes_7 (by decide) ?_
    first | refine r_icmp_eq_n (tgt := 23) dX8_goes_8 (by decide) (by omega) (by omega) (fun h8 => ?_) (fun h8 => by exfalso; omega) | refine r_icmp_eq_pn (tgt := 23) dX8_goes_8 (by decide) (by omega) (by omega) (fun h8 => ?_) (fun h8 => by exfalso; omega) | refine r_icmp_eq_pm (tgt := 23) dX8_goes_8 (by decide) (by omega) (fun h8 => ?_) (fun h8 => by exfalso; omega) | refine r_icmp_eq (tgt := 23) dX8_goes_8 (by decide) (fun h8 => ?_) (fun h8 => by exfalso; omega)
    refine ends 1 hs rfl (fun a b r hr => ?_)
    subst hr
    have z18 : F 18 = r.length + 1 := z18
    have hst : ∀ x, 0 < zLeft (wm W) (wk W) z (r.length + 1) → x = zLeft (wm W) (wk W) z (r.length + 1) → zStep W pa k (z, (1, a, b) :: r) = .inl (7, k + 1, x) := fun x h hx => by
      unfold zStep
      rw [if_neg (by omega), if_neg (by omega), if_pos (by rw [hs]; rfl)]
      show (if 1 ≠ wso W k then _ else _) = _
      rw [if_neg (by omega)]
      show (if 0 < zLeft (wm W) (wk W) z (r.length + 1) then _ else _) = _
      rw [if_pos h, hx]; rfl
    have hst2 : zLeft (wm W) (wk W) z (r.length + 1) = 0 → zStep W pa k (z, (1, a, b) :: r) = .inr (zEnd z (r.length + 1), r) := fun h => by
      unfold zStep
      rw [if_neg (by omega), if_neg (by omega), if_pos (by rw [hs]; rfl)]
      show (if 1 ≠ wso W k then _ else _) = _
      rw [if_neg (by omega)]
      show (if 0 < zLeft (wm W) (wk W) z (r.length + 1) then _ else _) = _
      rw [if_neg (by omega), if_pos hs]; rfl
    have hLe := hLe _ z18
    refine r_iload_n dX8_goes_65 rfl ?_
    refine r_tableIn (off := 58) (tgt := 124) dX8_goes_66 (by decide) (by decide) (by decide) (by decide) ?_
    first | refine r_aload_n dX8_goes_124 rfl ?_ | refine r_aload_nq dX8_goes_124 rfl ?_ | refine r_aload_nN dX8_goes_124 rfl ?_
    refine r_iload_n dX8_goes_125 rfl ?_
    refine r_callV s_X8_199_v dX8_goes_126 (by first | exact MAt.o (by assumption) | exact MAt.a1 (by assumption) | exact MAt.a2 (by assumption) | exact MAt.a3 (by assumption) | exact MAt.a4 (by assumption) | exact MAt.a5 (by assumption) | exact MAt.a6 (by assumption) | exact MAt.a7 (by assumption) | exact MAt.a8 (by assumption) | exact MAt.a9 (by assumption) | exact MAt.a10 (by assumption) | exact MAt.a11 (by assumption) | exact MAt.a12 (by assumption) | exact MAt.a13 (by assumption) | exact MAt.a14 (by assumption) | exact MAt.a15 (by assumption) | exact MAt.a16 (by assumption)) (by rfl) rfl (Nat.le_of_ble_eq_true rfl) (m_ended h hb k (by omega) (by omega) (by omega) hk3 hz30 (fun hl M hM => ?_) (fun hl M A' hM ha hj => ?_)) 
    skip
    · refine mK_r ?_
      refine r_iret rfl (by first | rfl | exact bI_nar _) dX8_goes_129 ?_
      rw [hLe] at hl hM
      exact hE _ (hst _ hl rfl) _ _ _ hM (WKp.er _ _ _) rfl rfl rfl
    · refine mK_r ?_
      refine r_iret rfl (by first | rfl | exact bI_nar _) dX8_goes_129 ?_
      rw [hLe] at hl
      refine hN _ (hst2 hl) _ _ _ hM ⟨fun i hi => fU_ne (by omega), fun i h5 h10 h11 h12 => ha i h10⟩ rfl rfl rfl ⟨?_, ?_, ?_, ?_, ?_⟩
      · rw [fU_eq, z18]; rfl
      · intro j hj'; rw [hj j hj']; exact zEnd_congr zj z18 hj'
      · intro j hj'; exact zEnd_le (zb j hj')
      · refine zSt_up (fun i hi => ?_) (fun j hj => ⟨?_, ?_⟩) zst.2.2.2.2.2
        · rw [ha 5 (by decide)]
        · rw [ha 11 (by decide)]
        · rw [ha 12 (by decide)]
      · simp only [List.length_cons] at zl; show r.length ≤ k + 1; omega
  · rw [s1, hs]
    have hg : won W k < 8 := by have := c3 (Or.inl hs); omega
    refine r_istore_n dX8_goes_5 (by decide) ?_
    simp only [mst1, mclr]
    refine r_iload_n dX8_goes_6 rfl ?_
    refine r_iconst (v := nI 1) dX8_goes_7 (by decide) ?_
    first | refine r_icmp_eq_n (tgt := 23) dX8_goes_8 (by decide) (by omega) (by omega) (fun h8 => by exfalso; omega) (fun h8 => ?_) | refine r_icmp_eq_pn (tgt := 23) dX8_goes_8 (by decide) (by omega) (by omega) (fun h8 => by exfalso; omega) (fun h8 => ?_) | refine r_icmp_eq_pm (tgt := 23) dX8_goes_8 (by decide) (by omega) (fun h8 => by exfalso; omega) (fun h8 => ?_) | refine r_icmp_eq (tgt := 23) dX8_goes_8 (by decide) (fun h8 => by exfalso; omega) (fun h8 => ?_)
    refine r_iload_n dX8_goes_11 rfl ?_
    refine r_bipush (v := nI 8) dX8_goes_12 (by decide) ?_
    first | refine r_icmp_eq_n (tgt := 23) dX8_goes_14 (by decide) (by omega) (by omega) (fun h14 => by exfalso; omega) (fun h14 => ?_) | refine r_icmp_eq_pn (tgt := 23) dX8_goes_14 (by decide) (by omega) (by omega) (fun h14 => by exfalso; omega) (fun h14 => ?_) | refine r_icmp_eq_pm (tgt := 23) dX8_goes_14 (by decide) (by omega) (fun h14 => by exfalso; omega) (fun h14 => ?_) | refine r_icmp_eq (tgt := 23) dX8_goes_14 (by decide) (fun h14 => by exfalso; omega) (fun h14 => ?_)
    refine r_iload_n dX8_goes_17 rfl ?_
    refine r_bipush (v := nI 9) dX8_goes_18 (by decide) ?_
    first | refine r_icmp_ne_n (tgt := 27) dX8_goes_20 (by decide) (by omega) (by omega) (fun h20 => ?_) (fun h20 => by exfalso; omega) | refine r_icmp_ne_pn (tgt := 27) dX8_goes_20 (by decide) (by omega) (by omega) (fun h20 => ?_) (fun h20 => by exfalso; omega) | refine r_icmp_ne_pm (tgt := 27) dX8_goes_20 (by decide) (by omega) (fun h20 => ?_) (fun h20 => by exfalso; omega) | refine r_icmp_ne (tgt := 27) dX8_goes_20 (by decide) (fun h20 => ?_) (fun h20 => by exfalso; omega)
    refine noEnd 2 ?_
    refine r_iload_n dX8_goes_65 rfl ?_
    refine r_tableIn (off := 64) (tgt := 130) dX8_goes_66 (by decide) (by decide) (by decide) (by decide) ?_
    first | refine r_aload_n dX8_goes_130 rfl ?_ | refine r_aload_nq dX8_goes_130 rfl ?_ | refine r_aload_nN dX8_goes_130 rfl ?_
    refine r_iload_n dX8_goes_131 rfl ?_
    first | refine r_aload_n dX8_goes_132 rfl ?_ | refine r_aload_nq dX8_goes_132 rfl ?_ | refine r_aload_nN dX8_goes_132 rfl ?_
    refine r_iload_n dX8_goes_133 rfl ?_
    refine r_callV s_X8_133_v dX8_goes_134 (by first | exact MAt.o (by assumption) | exact MAt.a1 (by assumption) | exact MAt.a2 (by assumption) | exact MAt.a3 (by assumption) | exact MAt.a4 (by assumption) | exact MAt.a5 (by assumption) | exact MAt.a6 (by assumption) | exact MAt.a7 (by assumption) | exact MAt.a8 (by assumption) | exact MAt.a9 (by assumption) | exact MAt.a10 (by assumption) | exact MAt.a11 (by assumption) | exact MAt.a12 (by assumption) | exact MAt.a13 (by assumption) | exact MAt.a14 (by assumption) | exact MAt.a15 (by assumption) | exact MAt.a16 (by assumption)) (by rfl) rfl (Nat.le_of_ble_eq_true rfl) (m_one h k (by omega) ?_)
    refine mK_r ?_
    rw [s2]
    have u : ∀ r, (if z (won W k) ≠ 0 then Sum.inl (2, k + 1, won W k + 1) else .inr (zBring z (won W k) st.length, st)) = r → zStep W pa k (z, st) = r := fun r hr => by
      unfold zStep
      rw [if_neg (by omega), if_neg (by omega), if_neg (by rw [hs]; decide), if_pos hs]
      exact hr
    refine r_callV s_X8_202_v dX8_goes_137 (by first | exact MAt.o (by assumption) | exact MAt.a1 (by assumption) | exact MAt.a2 (by assumption) | exact MAt.a3 (by assumption) | exact MAt.a4 (by assumption) | exact MAt.a5 (by assumption) | exact MAt.a6 (by assumption) | exact MAt.a7 (by assumption) | exact MAt.a8 (by assumption) | exact MAt.a9 (by assumption) | exact MAt.a10 (by assumption) | exact MAt.a11 (by assumption) | exact MAt.a12 (by assumption) | exact MAt.a13 (by assumption) | exact MAt.a14 (by assumption) | exact MAt.a15 (by assumption) | exact MAt.a16 (by assumption)) (by rfl) rfl (Nat.le_of_ble_eq_true rfl) (m_brings h hb k (won W k) hg hz30 (fun hx M hM => ?_) (fun hx M hM => ?_)) 
    skip
    · refine mK_r ?_
      refine r_iret rfl (by first | rfl | exact bI_nar _) dX8_goes_140 ?_
      rw [zj _ (by omega)] at hx
      exact hE _ (u _ (if_pos hx)) _ _ _ hM (WKp.er _ _ _) rfl rfl rfl
    · refine mK_r ?_
      refine r_iret rfl (by first | rfl | exact bI_nar _) dX8_goes_140 ?_
      rw [zj _ (by omega)] at hx
      refine hN _ (u _ (if_neg (fun hh => hh hx))) _ _ _ hM (WKp.a10 _) rfl rfl rfl ⟨z18, fun j hj => ?_, fun j hj => ?_, zSt_up (A := A) (A' := fA A 10 _) (st := st) (fun _ _ => rfl) (fun _ _ => ⟨rfl, rfl⟩) zst, by show st.length ≤ k + 1; omega⟩
      · rw [fA_eq]; unfold zBring fU; rw [zj j hj, z18]
      · have := zb j hj
        show fU (fU z (won W k) 1) (8 + won W k) st.length j ≤ 30
        unfold fU; split
        · omega
        · split <;> omega
  · rw [s1, hs]
    have hg : won W k < 8 := by have := c3 (Or.inr hs); omega
    have hgm : won W k < wm W := c3 (Or.inr hs)
    have e4g := e4 _ hgm
    refine r_istore_n dX8_goes_5 (by decide) ?_
    simp only [mst1, mclr]
    refine r_iload_n dX8_goes_6 rfl ?_
    refine r_iconst (v := nI 1) dX8_goes_7 (by decide) ?_
    first | refine r_icmp_eq_n (tgt := 23) dX8_goes_8 (by decide) (by omega) (by omega) (fun h8 => by exfalso; omega) (fun h8 => ?_) | refine r_icmp_eq_pn (tgt := 23) dX8_goes_8 (by decide) (by omega) (by omega) (fun h8 => by exfalso; omega) (fun h8 => ?_) | refine r_icmp_eq_pm (tgt := 23) dX8_goes_8 (by decide) (by omega) (fun h8 => by exfalso; omega) (fun h8 => ?_) | refine r_icmp_eq (tgt := 23) dX8_goes_8 (by decide) (fun h8 => by exfalso; omega) (fun h8 => ?_)
    refine r_iload_n dX8_goes_11 rfl ?_
    refine r_bipush (v := nI 8) dX8_goes_12 (by decide) ?_
    first | refine r_icmp_eq_n (tgt := 23) dX8_goes_14 (by decide) (by omega) (by omega) (fun h14 => by exfalso; omega) (fun h14 => ?_) | refine r_icmp_eq_pn (tgt := 23) dX8_goes_14 (by decide) (by omega) (by omega) (fun h14 => by exfalso; omega) (fun h14 => ?_) | refine r_icmp_eq_pm (tgt := 23) dX8_goes_14 (by decide) (by omega) (fun h14 => by exfalso; omega) (fun h14 => ?_) | refine r_icmp_eq (tgt := 23) dX8_goes_14 (by decide) (fun h14 => by exfalso; omega) (fun h14 => ?_)
    refine r_iload_n dX8_goes_17 rfl ?_
    refine r_bipush (v := nI 9) dX8_goes_18 (by decide) ?_
    first | refine r_icmp_ne_n (tgt := 27) dX8_goes_20 (by decide) (by omega) (by omega) (fun h20 => ?_) (fun h20 => by exfalso; omega) | refine r_icmp_ne_pn (tgt := 27) dX8_goes_20 (by decide) (by omega) (by omega) (fun h20 => ?_) (fun h20 => by exfalso; omega) | refine r_icmp_ne_pm (tgt := 27) dX8_goes_20 (by decide) (by omega) (fun h20 => ?_) (fun h20 => by exfalso; omega) | refine r_icmp_ne (tgt := 27) dX8_goes_20 (by decide) (fun h20 => ?_) (fun h20 => by exfalso; omega)
    refine noEnd 3 ?_
    refine r_iload_n dX8_goes_65 rfl ?_
    refine r_tableIn (off := 75) (tgt := 141) dX8_goes_66 (by decide) (by decide) (by decide) (by decide) ?_
    first | refine r_aload_n dX8_goes_141 rfl ?_ | refine r_aload_nq dX8_goes_141 rfl ?_ | refine r_aload_nN dX8_goes_141 rfl ?_
    refine r_iload_n dX8_goes_142 rfl ?_
    first | refine r_aload_n dX8_goes_143 rfl ?_ | refine r_aload_nq dX8_goes_143 rfl ?_ | refine r_aload_nN dX8_goes_143 rfl ?_
    refine r_iload_n dX8_goes_144 rfl ?_
    refine r_callV s_X8_133_v dX8_goes_145 (by first | exact MAt.o (by assumption) | exact MAt.a1 (by assumption) | exact MAt.a2 (by assumption) | exact MAt.a3 (by assumption) | exact MAt.a4 (by assumption) | exact MAt.a5 (by assumption) | exact MAt.a6 (by assumption) | exact MAt.a7 (by assumption) | exact MAt.a8 (by assumption) | exact MAt.a9 (by assumption) | exact MAt.a10 (by assumption) | exact MAt.a11 (by assumption) | exact MAt.a12 (by assumption) | exact MAt.a13 (by assumption) | exact MAt.a14 (by assumption) | exact MAt.a15 (by assumption) | exact MAt.a16 (by assumption)) (by rfl) rfl (Nat.le_of_ble_eq_true rfl) (m_one h k (by omega) ?_)
    refine mK_r ?_
    rw [s2]
    have u : ∀ r, (if z (won W k) ≠ 1 then Sum.inl (3, k + 1, won W k + 1) else if 0 < zOn z (won W k) false then .inl (4, k + 1, won W k + 1) else .inr (fU z (won W k) (if wk W (won W k) = 2 then 1 else 0), st)) = r → zStep W pa k (z, st) = r := fun r hr => by
      unfold zStep
      rw [if_neg (by omega), if_neg (by omega), if_neg (by rw [hs]; decide), if_neg (by omega), if_pos hs]
      exact hr
    have ez := zOn_congr (g := won W k) (w := false) zj
    refine r_callV s_X8_206_v dX8_goes_148 (by first | exact MAt.o (by assumption) | exact MAt.a1 (by assumption) | exact MAt.a2 (by assumption) | exact MAt.a3 (by assumption) | exact MAt.a4 (by assumption) | exact MAt.a5 (by assumption) | exact MAt.a6 (by assumption) | exact MAt.a7 (by assumption) | exact MAt.a8 (by assumption) | exact MAt.a9 (by assumption) | exact MAt.a10 (by assumption) | exact MAt.a11 (by assumption) | exact MAt.a12 (by assumption) | exact MAt.a13 (by assumption) | exact MAt.a14 (by assumption) | exact MAt.a15 (by assumption) | exact MAt.a16 (by assumption)) (by rfl) rfl (Nat.le_of_ble_eq_true rfl) (m_gives h hb k (won W k) hg (by omega) hz30 (fun hx M hM => ?_) (fun hx hx2 M hM => ?_) (fun hx hx2 M hM => ?_)) 
    skip
    · refine mK_r ?_
      refine r_iret rfl (by first | rfl | exact bI_nar _) dX8_goes_151 ?_
      rw [zj _ (by omega)] at hx
      exact hE _ (u _ (if_pos hx)) _ _ _ hM (WKp.er _ _ _) rfl rfl rfl
    · refine mK_r ?_
      refine r_iret rfl (by first | rfl | exact bI_nar _) dX8_goes_151 ?_
      rw [zj _ (by omega)] at hx
      rw [ez] at hx2
      exact hE _ (u _ (by rw [if_neg (fun hh => hh hx), if_pos hx2])) _ _ _ hM (WKp.er _ _ _) rfl rfl rfl
    · refine mK_r ?_
      refine r_iret rfl (by first | rfl | exact bI_nar _) dX8_goes_151 ?_
      rw [zj _ (by omega)] at hx
      rw [ez] at hx2
      refine hN _ (u _ (by rw [if_neg (fun hh => hh hx), if_neg (by omega)])) _ _ _ hM (WKp.a10 _) rfl rfl rfl ⟨z18, fun j hj => ?_, fun j hj => ?_, zSt_up (A := A) (A' := fA A 10 _) (st := st) (fun _ _ => rfl) (fun _ _ => ⟨rfl, rfl⟩) zst, by show st.length ≤ k + 1; omega⟩
      · rw [fA_eq, e4g.1]; unfold fU; rw [zj j hj]
      · have := zb j hj
        show fU z (won W k) _ j ≤ 30
        unfold fU; split
        · split <;> omega
        · omega
  · rw [s1, hs]
    have hg : wot W k < 8 := by have := c4 (Or.inl hs); omega
    have hp5 : won W k < 5 := c2 (by omega)
    have hcG : cGood (A 1 (37 + 3 * k)) (A 1 (38 + 3 * k)) (A 1 (39 + 3 * k)) = wot W k + 1 := by unfold cGood; rw [s1, hs, s3, if_neg (by decide), if_pos (by decide)]
    have u : ∀ r, (if z (wot W k) ≠ 1 then Sum.inl (3, k + 1, wot W k + 1) else if 0 < zOn z (wot W k) (!false) then .inl (4, k + 1, wot W k + 1) else if 0 < z (16 + won W k) then .inl (6, k + 1, won W k + 1) else .inr (zPut z (won W k) (wot W k) st.length false, st)) = r → zStep W pa k (z, st) = r := fun r hr => by
      unfold zStep
      rw [if_neg (by omega), if_neg (by omega), if_neg (by rw [hs]; decide), if_neg (by omega), if_neg (by omega), if_neg (by omega), show decide (wso W k = 5) = false by rw [hs]; rfl]
      exact hr
    have ez := zOn_congr (g := wot W k) (w := !false) zj
    refine r_istore_n dX8_goes_5 (by decide) ?_
    simp only [mst1, mclr]
    refine r_iload_n dX8_goes_6 rfl ?_
    refine r_iconst (v := nI 1) dX8_goes_7 (by decide) ?_
    first | refine r_icmp_eq_n (tgt := 23) dX8_goes_8 (by decide) (by omega) (by omega) (fun h8 => by exfalso; omega) (fun h8 => ?_) | refine r_icmp_eq_pn (tgt := 23) dX8_goes_8 (by decide) (by omega) (by omega) (fun h8 => by exfalso; omega) (fun h8 => ?_) | refine r_icmp_eq_pm (tgt := 23) dX8_goes_8 (by decide) (by omega) (fun h8 => by exfalso; omega) (fun h8 => ?_) | refine r_icmp_eq (tgt := 23) dX8_goes_8 (by decide) (fun h8 => by exfalso; omega) (fun h8 => ?_)
    refine r_iload_n dX8_goes_11 rfl ?_
    refine r_bipush (v := nI 8) dX8_goes_12 (by decide) ?_
    first | refine r_icmp_eq_n (tgt := 23) dX8_goes_14 (by decide) (by omega) (by omega) (fun h14 => by exfalso; omega) (fun h14 => ?_) | refine r_icmp_eq_pn (tgt := 23) dX8_goes_14 (by decide) (by omega) (by omega) (fun h14 => by exfalso; omega) (fun h14 => ?_) | refine r_icmp_eq_pm (tgt := 23) dX8_goes_14 (by decide) (by omega) (fun h14 => by exfalso; omega) (fun h14 => ?_) | refine r_icmp_eq (tgt := 23) dX8_goes_14 (by decide) (fun h14 => by exfalso; omega) (fun h14 => ?_)
    refine r_iload_n dX8_goes_17 rfl ?_
    refine r_bipush (v := nI 9) dX8_goes_18 (by decide) ?_
    first | refine r_icmp_ne_n (tgt := 27) dX8_goes_20 (by decide) (by omega) (by omega) (fun h20 => ?_) (fun h20 => by exfalso; omega) | refine r_icmp_ne_pn (tgt := 27) dX8_goes_20 (by decide) (by omega) (by omega) (fun h20 => ?_) (fun h20 => by exfalso; omega) | refine r_icmp_ne_pm (tgt := 27) dX8_goes_20 (by decide) (by omega) (fun h20 => ?_) (fun h20 => by exfalso; omega) | refine r_icmp_ne (tgt := 27) dX8_goes_20 (by decide) (fun h20 => ?_) (fun h20 => by exfalso; omega)
    refine noEnd 4 ?_
    refine r_iload_n dX8_goes_65 rfl ?_
    refine r_tableIn (off := 86) (tgt := 152) dX8_goes_66 (by decide) (by decide) (by decide) (by decide) ?_
    first | refine r_aload_n dX8_goes_152 rfl ?_ | refine r_aload_nq dX8_goes_152 rfl ?_ | refine r_aload_nN dX8_goes_152 rfl ?_
    refine r_iload_n dX8_goes_153 rfl ?_
    first | refine r_aload_n dX8_goes_154 rfl ?_ | refine r_aload_nq dX8_goes_154 rfl ?_ | refine r_aload_nN dX8_goes_154 rfl ?_
    refine r_iload_n dX8_goes_155 rfl ?_
    refine r_callV s_X8_133_v dX8_goes_156 (by first | exact MAt.o (by assumption) | exact MAt.a1 (by assumption) | exact MAt.a2 (by assumption) | exact MAt.a3 (by assumption) | exact MAt.a4 (by assumption) | exact MAt.a5 (by assumption) | exact MAt.a6 (by assumption) | exact MAt.a7 (by assumption) | exact MAt.a8 (by assumption) | exact MAt.a9 (by assumption) | exact MAt.a10 (by assumption) | exact MAt.a11 (by assumption) | exact MAt.a12 (by assumption) | exact MAt.a13 (by assumption) | exact MAt.a14 (by assumption) | exact MAt.a15 (by assumption) | exact MAt.a16 (by assumption)) (by rfl) rfl (Nat.le_of_ble_eq_true rfl) (m_one h k (by omega) ?_)
    refine mK_r ?_
    first | refine r_aload_n dX8_goes_159 rfl ?_ | refine r_aload_nq dX8_goes_159 rfl ?_ | refine r_aload_nN dX8_goes_159 rfl ?_
    refine r_iload_n dX8_goes_160 rfl ?_
    refine r_callV s_X8_113_v dX8_goes_161 (by first | exact MAt.o (by assumption) | exact MAt.a1 (by assumption) | exact MAt.a2 (by assumption) | exact MAt.a3 (by assumption) | exact MAt.a4 (by assumption) | exact MAt.a5 (by assumption) | exact MAt.a6 (by assumption) | exact MAt.a7 (by assumption) | exact MAt.a8 (by assumption) | exact MAt.a9 (by assumption) | exact MAt.a10 (by assumption) | exact MAt.a11 (by assumption) | exact MAt.a12 (by assumption) | exact MAt.a13 (by assumption) | exact MAt.a14 (by assumption) | exact MAt.a15 (by assumption) | exact MAt.a16 (by assumption)) (by rfl) rfl (Nat.le_of_ble_eq_true rfl) (m_goodIn h k (by omega) (by omega) (nm_e ?_))
    refine mK_r ?_
    rw [hcG, s2]
    show mW _ _ _ _ _ [.int (nI (wot W k)), _, _, _] _ _ _ _
    refine r_iload_n dX8_goes_164 rfl ?_
    refine r_iconst (v := nI 5) dX8_goes_165 (by decide) ?_
    first | refine r_icmp_ne_n (tgt := 173) dX8_goes_166 (by decide) (by omega) (by omega) (fun h166 => ?_) (fun h166 => by exfalso; omega) | refine r_icmp_ne_pn (tgt := 173) dX8_goes_166 (by decide) (by omega) (by omega) (fun h166 => ?_) (fun h166 => by exfalso; omega) | refine r_icmp_ne_pm (tgt := 173) dX8_goes_166 (by decide) (by omega) (fun h166 => ?_) (fun h166 => by exfalso; omega) | refine r_icmp_ne (tgt := 173) dX8_goes_166 (by decide) (fun h166 => ?_) (fun h166 => by exfalso; omega)
    refine r_iconst (v := nI 0) dX8_goes_173 (by decide) ?_
    refine r_callV s_X8_209_v dX8_goes_174 (by first | exact MAt.o (by assumption) | exact MAt.a1 (by assumption) | exact MAt.a2 (by assumption) | exact MAt.a3 (by assumption) | exact MAt.a4 (by assumption) | exact MAt.a5 (by assumption) | exact MAt.a6 (by assumption) | exact MAt.a7 (by assumption) | exact MAt.a8 (by assumption) | exact MAt.a9 (by assumption) | exact MAt.a10 (by assumption) | exact MAt.a11 (by assumption) | exact MAt.a12 (by assumption) | exact MAt.a13 (by assumption) | exact MAt.a14 (by assumption) | exact MAt.a15 (by assumption) | exact MAt.a16 (by assumption)) (by rfl) rfl (Nat.le_of_ble_eq_true rfl) (m_puts h hb k (won W k) (wot W k) false hp5 hg hz30 (fun hx M hM => ?_) (fun hx hx2 M hM => ?_) (fun hx hx2 hx3 M hM => ?_) (fun hx hx2 hx3 M hM => ?_)) 
    skip
    · refine mK_r ?_
      refine r_iret rfl (by first | rfl | exact bI_nar _) dX8_goes_177 ?_
      rw [zj _ (by omega)] at hx
      exact hE _ (u _ (if_pos hx)) _ _ _ hM (WKp.er _ _ _) rfl rfl rfl
    · refine mK_r ?_
      refine r_iret rfl (by first | rfl | exact bI_nar _) dX8_goes_177 ?_
      rw [zj _ (by omega)] at hx
      rw [ez] at hx2
      exact hE _ (u _ (by rw [if_neg (fun hh => hh hx), if_pos hx2])) _ _ _ hM (WKp.er _ _ _) rfl rfl rfl
    · refine mK_r ?_
      refine r_iret rfl (by first | rfl | exact bI_nar _) dX8_goes_177 ?_
      rw [zj _ (by omega)] at hx
      rw [ez] at hx2
      rw [zj _ (by omega)] at hx3
      exact hE _ (u _ (by rw [if_neg (fun hh => hh hx), if_neg (by omega), if_pos hx3])) _ _ _ hM (WKp.er _ _ _) rfl rfl rfl
    · refine mK_r ?_
      refine r_iret rfl (by first | rfl | exact bI_nar _) dX8_goes_177 ?_
      rw [zj _ (by omega)] at hx
      rw [ez] at hx2
      rw [zj _ (by omega)] at hx3
      refine hN _ (u _ (by rw [if_neg (fun hh => hh hx), if_neg (by omega), if_neg (by omega)])) _ _ _ hM (WKp.a10 _) rfl rfl rfl ⟨z18, fun j hj => ?_, fun j hj => ?_, zSt_up (A := A) (A' := fA A 10 _) (st := st) (fun _ _ => rfl) (fun _ _ => ⟨rfl, rfl⟩) zst, by show st.length ≤ k + 1; omega⟩
      · rw [fA_eq]; unfold zPut fU; rw [zj j hj, z18]
      · have := zb j hj
        show zPut z (won W k) (wot W k) st.length false j ≤ 30
        unfold zPut fU; split
        · omega
        · split
          · split <;> omega
          · split <;> omega
  · rw [s1, hs]
    have hg : wot W k < 8 := by have := c4 (Or.inr hs); omega
    have hp5 : won W k < 5 := c2 (by omega)
    have hcG : cGood (A 1 (37 + 3 * k)) (A 1 (38 + 3 * k)) (A 1 (39 + 3 * k)) = wot W k + 1 := by unfold cGood; rw [s1, hs, s3, if_neg (by decide), if_pos (by decide)]
    have u : ∀ r, (if z (wot W k) ≠ 1 then Sum.inl (3, k + 1, wot W k + 1) else if 0 < zOn z (wot W k) (!true) then .inl (4, k + 1, wot W k + 1) else if 0 < z (16 + won W k) then .inl (6, k + 1, won W k + 1) else .inr (zPut z (won W k) (wot W k) st.length true, st)) = r → zStep W pa k (z, st) = r := fun r hr => by
      unfold zStep
      rw [if_neg (by omega), if_neg (by omega), if_neg (by rw [hs]; decide), if_neg (by omega), if_neg (by omega), if_neg (by omega), show decide (wso W k = 5) = true by rw [hs]; rfl]
      exact hr
    have ez := zOn_congr (g := wot W k) (w := !true) zj
    refine r_istore_n dX8_goes_5 (by decide) ?_
    simp only [mst1, mclr]
    refine r_iload_n dX8_goes_6 rfl ?_
    refine r_iconst (v := nI 1) dX8_goes_7 (by decide) ?_
    first | refine r_icmp_eq_n (tgt := 23) dX8_goes_8 (by decide) (by omega) (by omega) (fun h8 => by exfalso; omega) (fun h8 => ?_) | refine r_icmp_eq_pn (tgt := 23) dX8_goes_8 (by decide) (by omega) (by omega) (fun h8 => by exfalso; omega) (fun h8 => ?_) | refine r_icmp_eq_pm (tgt := 23) dX8_goes_8 (by decide) (by omega) (fun h8 => by exfalso; omega) (fun h8 => ?_) | refine r_icmp_eq (tgt := 23) dX8_goes_8 (by decide) (fun h8 => by exfalso; omega) (fun h8 => ?_)
    refine r_iload_n dX8_goes_11 rfl ?_
    refine r_bipush (v := nI 8) dX8_goes_12 (by decide) ?_
    first | refine r_icmp_eq_n (tgt := 23) dX8_goes_14 (by decide) (by omega) (by omega) (fun h14 => by exfalso; omega) (fun h14 => ?_) | refine r_icmp_eq_pn (tgt := 23) dX8_goes_14 (by decide) (by omega) (by omega) (fun h14 => by exfalso; omega) (fun h14 => ?_) | refine r_icmp_eq_pm (tgt := 23) dX8_goes_14 (by decide) (by omega) (fun h14 => by exfalso; omega) (fun h14 => ?_) | refine r_icmp_eq (tgt := 23) dX8_goes_14 (by decide) (fun h14 => by exfalso; omega) (fun h14 => ?_)
    refine r_iload_n dX8_goes_17 rfl ?_
    refine r_bipush (v := nI 9) dX8_goes_18 (by decide) ?_
    first | refine r_icmp_ne_n (tgt := 27) dX8_goes_20 (by decide) (by omega) (by omega) (fun h20 => ?_) (fun h20 => by exfalso; omega) | refine r_icmp_ne_pn (tgt := 27) dX8_goes_20 (by decide) (by omega) (by omega) (fun h20 => ?_) (fun h20 => by exfalso; omega) | refine r_icmp_ne_pm (tgt := 27) dX8_goes_20 (by decide) (by omega) (fun h20 => ?_) (fun h20 => by exfalso; omega) | refine r_icmp_ne (tgt := 27) dX8_goes_20 (by decide) (fun h20 => ?_) (fun h20 => by exfalso; omega)
    refine noEnd 5 ?_
    refine r_iload_n dX8_goes_65 rfl ?_
    refine r_tableIn (off := 86) (tgt := 152) dX8_goes_66 (by decide) (by decide) (by decide) (by decide) ?_
    first | refine r_aload_n dX8_goes_152 rfl ?_ | refine r_aload_nq dX8_goes_152 rfl ?_ | refine r_aload_nN dX8_goes_152 rfl ?_
    refine r_iload_n dX8_goes_153 rfl ?_
    first | refine r_aload_n dX8_goes_154 rfl ?_ | refine r_aload_nq dX8_goes_154 rfl ?_ | refine r_aload_nN dX8_goes_154 rfl ?_
    refine r_iload_n dX8_goes_155 rfl ?_
    refine r_callV s_X8_133_v dX8_goes_156 (by first | exact MAt.o (by assumption) | exact MAt.a1 (by assumption) | exact MAt.a2 (by assumption) | exact MAt.a3 (by assumption) | exact MAt.a4 (by assumption) | exact MAt.a5 (by assumption) | exact MAt.a6 (by assumption) | exact MAt.a7 (by assumption) | exact MAt.a8 (by assumption) | exact MAt.a9 (by assumption) | exact MAt.a10 (by assumption) | exact MAt.a11 (by assumption) | exact MAt.a12 (by assumption) | exact MAt.a13 (by assumption) | exact MAt.a14 (by assumption) | exact MAt.a15 (by assumption) | exact MAt.a16 (by assumption)) (by rfl) rfl (Nat.le_of_ble_eq_true rfl) (m_one h k (by omega) ?_)
    refine mK_r ?_
    first | refine r_aload_n dX8_goes_159 rfl ?_ | refine r_aload_nq dX8_goes_159 rfl ?_ | refine r_aload_nN dX8_goes_159 rfl ?_
    refine r_iload_n dX8_goes_160 rfl ?_
    refine r_callV s_X8_113_v dX8_goes_161 (by first | exact MAt.o (by assumption) | exact MAt.a1 (by assumption) | exact MAt.a2 (by assumption) | exact MAt.a3 (by assumption) | exact MAt.a4 (by assumption) | exact MAt.a5 (by assumption) | exact MAt.a6 (by assumption) | exact MAt.a7 (by assumption) | exact MAt.a8 (by assumption) | exact MAt.a9 (by assumption) | exact MAt.a10 (by assumption) | exact MAt.a11 (by assumption) | exact MAt.a12 (by assumption) | exact MAt.a13 (by assumption) | exact MAt.a14 (by assumption) | exact MAt.a15 (by assumption) | exact MAt.a16 (by assumption)) (by rfl) rfl (Nat.le_of_ble_eq_true rfl) (m_goodIn h k (by omega) (by omega) (nm_e ?_))
    refine mK_r ?_
    rw [hcG, s2]
    show mW _ _ _ _ _ [.int (nI (wot W k)), _, _, _] _ _ _ _
    refine r_iload_n dX8_goes_164 rfl ?_
    refine r_iconst (v := nI 5) dX8_goes_165 (by decide) ?_
    first | refine r_icmp_ne_n (tgt := 173) dX8_goes_166 (by decide) (by omega) (by omega) (fun h166 => by exfalso; omega) (fun h166 => ?_) | refine r_icmp_ne_pn (tgt := 173) dX8_goes_166 (by decide) (by omega) (by omega) (fun h166 => by exfalso; omega) (fun h166 => ?_) | refine r_icmp_ne_pm (tgt := 173) dX8_goes_166 (by decide) (by omega) (fun h166 => by exfalso; omega) (fun h166 => ?_) | refine r_icmp_ne (tgt := 173) dX8_goes_166 (by decide) (fun h166 => by exfalso; omega) (fun h166 => ?_)
    refine r_iconst (v := nI 1) dX8_goes_169 (by decide) ?_
    refine r_goto (tgt := 174) dX8_goes_170 (by decide) ?_
    refine r_callV s_X8_209_v dX8_goes_174 (by first | exact MAt.o (by assumption) | exact MAt.a1 (by assumption) | exact MAt.a2 (by assumption) | exact MAt.a3 (by assumption) | exact MAt.a4 (by assumption) | exact MAt.a5 (by assumption) | exact MAt.a6 (by assumption) | exact MAt.a7 (by assumption) | exact MAt.a8 (by assumption) | exact MAt.a9 (by assumption) | exact MAt.a10 (by assumption) | exact MAt.a11 (by assumption) | exact MAt.a12 (by assumption) | exact MAt.a13 (by assumption) | exact MAt.a14 (by assumption) | exact MAt.a15 (by assumption) | exact MAt.a16 (by assumption)) (by rfl) rfl (Nat.le_of_ble_eq_true rfl) (m_puts h hb k (won W k) (wot W k) true hp5 hg hz30 (fun hx M hM => ?_) (fun hx hx2 M hM => ?_) (fun hx hx2 hx3 M hM => ?_) (fun hx hx2 hx3 M hM => ?_)) 
    skip
    · refine mK_r ?_
      refine r_iret rfl (by first | rfl | exact bI_nar _) dX8_goes_177 ?_
      rw [zj _ (by omega)] at hx
      exact hE _ (u _ (if_pos hx)) _ _ _ hM (WKp.er _ _ _) rfl rfl rfl
    · refine mK_r ?_
      refine r_iret rfl (by first | rfl | exact bI_nar _) dX8_goes_177 ?_
      rw [zj _ (by omega)] at hx
      rw [ez] at hx2
      exact hE _ (u _ (by rw [if_neg (fun hh => hh hx), if_pos hx2])) _ _ _ hM (WKp.er _ _ _) rfl rfl rfl
    · refine mK_r ?_
      refine r_iret rfl (by first | rfl | exact bI_nar _) dX8_goes_177 ?_
      rw [zj _ (by omega)] at hx
      rw [ez] at hx2
      rw [zj _ (by omega)] at hx3
      exact hE _ (u _ (by rw [if_neg (fun hh => hh hx), if_neg (by omega), if_pos hx3])) _ _ _ hM (WKp.er _ _ _) rfl rfl rfl
    · refine mK_r ?_
      refine r_iret rfl (by first | rfl | exact bI_nar _) dX8_goes_177 ?_
      rw [zj _ (by omega)] at hx
      rw [ez] at hx2
      rw [zj _ (by omega)] at hx3
      refine hN _ (u _ (by rw [if_neg (fun hh => hh hx), if_neg (by omega), if_neg (by omega)])) _ _ _ hM (WKp.a10 _) rfl rfl rfl ⟨z18, fun j hj => ?_, fun j hj => ?_, zSt_up (A := A) (A' := fA A 10 _) (st := st) (fun _ _ => rfl) (fun _ _ => ⟨rfl, rfl⟩) zst, by show st.length ≤ k + 1; omega⟩
      · rw [fA_eq]; unfold zPut fU; rw [zj j hj, z18]
      · have := zb j hj
        show zPut z (won W k) (wot W k) st.length true j ≤ 30
        unfold zPut fU; split
        · omega
        · split
          · split <;> omega
          · split <;> omega
  · rw [s1, hs]
    have hp5 : won W k < 5 := c2 (by omega)
    have u : ∀ r, (if z (16 + won W k) = 0 then Sum.inl (5, k + 1, won W k + 1) else .inr (z, st)) = r → zStep W pa k (z, st) = r := fun r hr => by
      unfold zStep
      rw [if_neg (by omega), if_neg (by omega), if_neg (by rw [hs]; decide), if_neg (by omega), if_neg (by omega), if_pos hs]
      exact hr
    have zo := zj (16 + won W k) (by omega)
    have zo2 := zb (16 + won W k) (by omega)
    refine r_istore_n dX8_goes_5 (by decide) ?_
    simp only [mst1, mclr]
    refine r_iload_n dX8_goes_6 rfl ?_
    refine r_iconst (v := nI 1) dX8_goes_7 (by decide) ?_
    first | refine r_icmp_eq_n (tgt := 23) dX8_goes_8 (by decide) (by omega) (by omega) (fun h8 => by exfalso; omega) (fun h8 => ?_) | refine r_icmp_eq_pn (tgt := 23) dX8_goes_8 (by decide) (by omega) (by omega) (fun h8 => by exfalso; omega) (fun h8 => ?_) | refine r_icmp_eq_pm (tgt := 23) dX8_goes_8 (by decide) (by omega) (fun h8 => by exfalso; omega) (fun h8 => ?_) | refine r_icmp_eq (tgt := 23) dX8_goes_8 (by decide) (fun h8 => by exfalso; omega) (fun h8 => ?_)
    refine r_iload_n dX8_goes_11 rfl ?_
    refine r_bipush (v := nI 8) dX8_goes_12 (by decide) ?_
    first | refine r_icmp_eq_n (tgt := 23) dX8_goes_14 (by decide) (by omega) (by omega) (fun h14 => by exfalso; omega) (fun h14 => ?_) | refine r_icmp_eq_pn (tgt := 23) dX8_goes_14 (by decide) (by omega) (by omega) (fun h14 => by exfalso; omega) (fun h14 => ?_) | refine r_icmp_eq_pm (tgt := 23) dX8_goes_14 (by decide) (by omega) (fun h14 => by exfalso; omega) (fun h14 => ?_) | refine r_icmp_eq (tgt := 23) dX8_goes_14 (by decide) (fun h14 => by exfalso; omega) (fun h14 => ?_)
    refine r_iload_n dX8_goes_17 rfl ?_
    refine r_bipush (v := nI 9) dX8_goes_18 (by decide) ?_
    first | refine r_icmp_ne_n (tgt := 27) dX8_goes_20 (by decide) (by omega) (by omega) (fun h20 => ?_) (fun h20 => by exfalso; omega) | refine r_icmp_ne_pn (tgt := 27) dX8_goes_20 (by decide) (by omega) (by omega) (fun h20 => ?_) (fun h20 => by exfalso; omega) | refine r_icmp_ne_pm (tgt := 27) dX8_goes_20 (by decide) (by omega) (fun h20 => ?_) (fun h20 => by exfalso; omega) | refine r_icmp_ne (tgt := 27) dX8_goes_20 (by decide) (fun h20 => ?_) (fun h20 => by exfalso; omega)
    refine noEnd 6 ?_
    refine r_iload_n dX8_goes_65 rfl ?_
    refine r_tableIn (off := 112) (tgt := 178) dX8_goes_66 (by decide) (by decide) (by decide) (by decide) ?_
    first | refine r_aload_n dX8_goes_178 rfl ?_ | refine r_aload_nq dX8_goes_178 rfl ?_ | refine r_aload_nN dX8_goes_178 rfl ?_
    refine r_getf f_X8_37_7 (by first | exact MAt.o (by assumption) | exact MAt.a1 (by assumption) | exact MAt.a2 (by assumption) | exact MAt.a3 (by assumption) | exact MAt.a4 (by assumption) | exact MAt.a5 (by assumption) | exact MAt.a6 (by assumption) | exact MAt.a7 (by assumption) | exact MAt.a8 (by assumption) | exact MAt.a9 (by assumption) | exact MAt.a10 (by assumption) | exact MAt.a11 (by assumption) | exact MAt.a12 (by assumption) | exact MAt.a13 (by assumption) | exact MAt.a14 (by assumption) | exact MAt.a15 (by assumption) | exact MAt.a16 (by assumption)) (by rfl) dX8_goes_179 ?_
    refine r_bipush (v := nI 16) dX8_goes_182 (by decide) ?_
    first | refine r_aload_n dX8_goes_184 rfl ?_ | refine r_aload_nq dX8_goes_184 rfl ?_ | refine r_aload_nN dX8_goes_184 rfl ?_
    refine r_iload_n dX8_goes_185 rfl ?_
    refine r_callV s_X8_133_v dX8_goes_186 (by first | exact MAt.o (by assumption) | exact MAt.a1 (by assumption) | exact MAt.a2 (by assumption) | exact MAt.a3 (by assumption) | exact MAt.a4 (by assumption) | exact MAt.a5 (by assumption) | exact MAt.a6 (by assumption) | exact MAt.a7 (by assumption) | exact MAt.a8 (by assumption) | exact MAt.a9 (by assumption) | exact MAt.a10 (by assumption) | exact MAt.a11 (by assumption) | exact MAt.a12 (by assumption) | exact MAt.a13 (by assumption) | exact MAt.a14 (by assumption) | exact MAt.a15 (by assumption) | exact MAt.a16 (by assumption)) (by rfl) rfl (Nat.le_of_ble_eq_true rfl) (m_one h k (by omega) ?_)
    refine mK_r ?_
    rw [s2]
    first | refine r_iadd_n dX8_goes_189 ?_ | refine r_iadd dX8_goes_189 ?_
    refine r_iald_n (by first | exact MAt.o (by assumption) | exact MAt.a1 (by assumption) | exact MAt.a2 (by assumption) | exact MAt.a3 (by assumption) | exact MAt.a4 (by assumption) | exact MAt.a5 (by assumption) | exact MAt.a6 (by assumption) | exact MAt.a7 (by assumption) | exact MAt.a8 (by assumption) | exact MAt.a9 (by assumption) | exact MAt.a10 (by assumption) | exact MAt.a11 (by assumption) | exact MAt.a12 (by assumption) | exact MAt.a13 (by assumption) | exact MAt.a14 (by assumption) | exact MAt.a15 (by assumption) | exact MAt.a16 (by assumption)) (by rfl) (by omega) (by omega) dX8_goes_190 ?_
    rw [sE_p (by omega), zo]
    first | refine r_if_ge_p (tgt := 208) dX8_goes_191 (by decide) (by omega) (fun h191 => ?_) (fun h191 => ?_) | refine r_if_ge_n (tgt := 208) dX8_goes_191 (by decide) (by omega) ?_ | refine r_if_ge (tgt := 208) dX8_goes_191 (by decide) (fun h191 => ?_) (fun h191 => ?_)
    · refine r_iconst (v := nI 1) dX8_goes_208 (by decide) ?_
      refine r_goto (tgt := 213) dX8_goes_209 (by decide) ?_
      refine r_iret rfl (by first | rfl | exact bI_nar _) dX8_goes_213 ?_
      exact hN _ (u _ (if_neg (by omega))) _ _ _ h WKp.refl rfl rfl rfl ⟨z18, zj, zb, zst, by show st.length ≤ k + 1; omega⟩
    · first | refine r_aload_n dX8_goes_194 rfl ?_ | refine r_aload_nq dX8_goes_194 rfl ?_ | refine r_aload_nN dX8_goes_194 rfl ?_
      refine r_iconst (v := nI 5) dX8_goes_195 (by decide) ?_
      refine r_iload_n dX8_goes_196 rfl ?_
      first | refine r_aload_n dX8_goes_197 rfl ?_ | refine r_aload_nq dX8_goes_197 rfl ?_ | refine r_aload_nN dX8_goes_197 rfl ?_
      refine r_iload_n dX8_goes_198 rfl ?_
      refine r_callV s_X8_133_v dX8_goes_199 (by first | exact MAt.o (by assumption) | exact MAt.a1 (by assumption) | exact MAt.a2 (by assumption) | exact MAt.a3 (by assumption) | exact MAt.a4 (by assumption) | exact MAt.a5 (by assumption) | exact MAt.a6 (by assumption) | exact MAt.a7 (by assumption) | exact MAt.a8 (by assumption) | exact MAt.a9 (by assumption) | exact MAt.a10 (by assumption) | exact MAt.a11 (by assumption) | exact MAt.a12 (by assumption) | exact MAt.a13 (by assumption) | exact MAt.a14 (by assumption) | exact MAt.a15 (by assumption) | exact MAt.a16 (by assumption)) (by rfl) rfl (Nat.le_of_ble_eq_true rfl) (m_one h k (by omega) ?_)
      refine mK_r ?_
      rw [s2]
      refine r_callV s_X8_188_v dX8_goes_202 (by first | exact MAt.o (by assumption) | exact MAt.a1 (by assumption) | exact MAt.a2 (by assumption) | exact MAt.a3 (by assumption) | exact MAt.a4 (by assumption) | exact MAt.a5 (by assumption) | exact MAt.a6 (by assumption) | exact MAt.a7 (by assumption) | exact MAt.a8 (by assumption) | exact MAt.a9 (by assumption) | exact MAt.a10 (by assumption) | exact MAt.a11 (by assumption) | exact MAt.a12 (by assumption) | exact MAt.a13 (by assumption) | exact MAt.a14 (by assumption) | exact MAt.a15 (by assumption) | exact MAt.a16 (by assumption)) (by rfl) rfl (Nat.le_of_ble_eq_true rfl) (m_errs h hb 5 (k + 1) (won W k + 1) (fun M hM => ?_))
      refine mK_r ?_
      refine r_if_eq_b (tgt := 212) dX8_goes_205 (by decide) (fun h205 => ?_) (fun h205 => absurd h205 (by decide))
      refine r_iconst (v := nI 0) dX8_goes_212 (by decide) ?_
      refine r_iret rfl (by first | rfl | exact bI_nar _) dX8_goes_213 ?_
      exact hE _ (u _ (if_pos h191)) _ _ _ hM (WKp.er _ _ _) rfl rfl rfl
  · rw [s1, hs]
    have hst : zStep W pa k (z, st) = .inr (z, (8, z, z) :: st) := by unfold zStep; rw [if_neg (by omega), if_pos hs]
    refine r_istore_n dX8_goes_5 (by decide) ?_
    simp only [mst1, mclr]
    refine r_iload_n dX8_goes_6 rfl ?_
    refine r_iconst (v := nI 1) dX8_goes_7 (by decide) ?_
    first | refine r_icmp_eq_n (tgt := 23) dX8_goes_8 (by decide) (by omega) (by omega) (fun h8 => by exfalso; omega) (fun h8 => ?_) | refine r_icmp_eq_pn (tgt := 23) dX8_goes_8 (by decide) (by omega) (by omega) (fun h8 => by exfalso; omega) (fun h8 => ?_) | refine r_icmp_eq_pm (tgt := 23) dX8_goes_8 (by decide) (by omega) (fun h8 => by exfalso; omega) (fun h8 => ?_) | refine r_icmp_eq (tgt := 23) dX8_goes_8 (by decide) (fun h8 => by exfalso; omega) (fun h8 => ?_)
    refine r_iload_n dX8_goes_11 rfl ?_
    refine r_bipush (v := nI 8) dX8_goes_12 (by decide) ?_
    first | refine r_icmp_eq_n (tgt := 23) dX8_goes_14 (by decide) (by omega) (by omega) (fun h14 => by exfalso; omega) (fun h14 => ?_) | refine r_icmp_eq_pn (tgt := 23) dX8_goes_14 (by decide) (by omega) (by omega) (fun h14 => by exfalso; omega) (fun h14 => ?_) | refine r_icmp_eq_pm (tgt := 23) dX8_goes_14 (by decide) (by omega) (fun h14 => by exfalso; omega) (fun h14 => ?_) | refine r_icmp_eq (tgt := 23) dX8_goes_14 (by decide) (fun h14 => by exfalso; omega) (fun h14 => ?_)
    refine r_iload_n dX8_goes_17 rfl ?_
    refine r_bipush (v := nI 9) dX8_goes_18 (by decide) ?_
    first | refine r_icmp_ne_n (tgt := 27) dX8_goes_20 (by decide) (by omega) (by omega) (fun h20 => ?_) (fun h20 => by exfalso; omega) | refine r_icmp_ne_pn (tgt := 27) dX8_goes_20 (by decide) (by omega) (by omega) (fun h20 => ?_) (fun h20 => by exfalso; omega) | refine r_icmp_ne_pm (tgt := 27) dX8_goes_20 (by decide) (by omega) (fun h20 => ?_) (fun h20 => by exfalso; omega) | refine r_icmp_ne (tgt := 27) dX8_goes_20 (by decide) (fun h20 => ?_) (fun h20 => by exfalso; omega)
    refine noEnd 7 ?_
    refine r_iload_n dX8_goes_65 rfl ?_
    refine r_tableIn (off := 148) (tgt := 214) dX8_goes_66 (by decide) (by decide) (by decide) (by decide) ?_
    first | refine r_aload_n dX8_goes_214 rfl ?_ | refine r_aload_nq dX8_goes_214 rfl ?_ | refine r_aload_nN dX8_goes_214 rfl ?_
    refine r_bipush (v := nI 8) dX8_goes_215 (by decide) ?_
    refine r_iload_n dX8_goes_217 rfl ?_
    refine r_callV s_X8_195_v dX8_goes_218 (by first | exact MAt.o (by assumption) | exact MAt.a1 (by assumption) | exact MAt.a2 (by assumption) | exact MAt.a3 (by assumption) | exact MAt.a4 (by assumption) | exact MAt.a5 (by assumption) | exact MAt.a6 (by assumption) | exact MAt.a7 (by assumption) | exact MAt.a8 (by assumption) | exact MAt.a9 (by assumption) | exact MAt.a10 (by assumption) | exact MAt.a11 (by assumption) | exact MAt.a12 (by assumption) | exact MAt.a13 (by assumption) | exact MAt.a14 (by assumption) | exact MAt.a15 (by assumption) | exact MAt.a16 (by assumption)) (by rfl) rfl (Nat.le_of_ble_eq_true rfl) (m_opens h hb 8 k (by omega) (by omega) (fun M A' hM o5 o8 oi o11 => ?_))
    refine mK_v ?_
    refine r_iconst (v := nI 1) dX8_goes_221 (by decide) ?_
    refine r_iret rfl (by first | rfl | exact bI_nar _) dX8_goes_222 ?_
    refine hN _ hst _ _ _ hM ⟨fun i hi => fU_ne (by omega), fun i h5 h10 h11 h12 => oi i h5 h11⟩ rfl rfl rfl ⟨?_, ?_, zb, ⟨?_, fun _ _ j hj => ?_, fun h => absurd h (by decide), fun j hj => ⟨zb j hj, zb j hj⟩, Or.inr (Or.inl rfl), ?_⟩, ?_⟩
    · rw [fU_eq, z18]; rfl
    · intro j hj; rw [oi 10 (by decide) (by decide)]; exact zj j hj
    · rw [o5, z18, fU_eq]
    · rw [← z18, o8 rfl j hj]; exact zj j hj
    · refine zSt_up (fun i hi => ?_) (fun j hj => ⟨?_, ?_⟩) zst
      · rw [o5, fU_ne (by omega)]
      · exact o11 j (Or.inl (by rw [z18]; exact hj))
      · rw [oi 12 (by decide) (by decide)]
    · show st.length + 1 ≤ k + 1; omega
  · rw [s1, hs]
    refine r_istore_n dX8_goes_5 (by decide) ?_
    simp only [mst1, mclr]
    refine r_iload_n dX8_goes_6 rfl ?_
    refine r_iconst (v := nI 1) dX8_goes_7 (by decide) ?_
    first | refine r_icmp_eq_n (tgt := 23) dX8_goes_8 (by decide) (by omega) (by omega) (fun h8 => by exfalso; omega) (fun h8 => ?_) | refine r_icmp_eq_pn (tgt := 23) dX8_goes_8 (by decide) (by omega) (by omega) (fun h8 => by exfalso; omega) (fun h8 => ?_) | refine r_icmp_eq_pm (tgt := 23) dX8_goes_8 (by decide) (by omega) (fun h8 => by exfalso; omega) (fun h8 => ?_) | refine r_icmp_eq (tgt := 23) dX8_goes_8 (by decide) (fun h8 => by exfalso; omega) (fun h8 => ?_)
    refine r_iload_n dX8_goes_11 rfl ?_
    refine r_bipush (v := nI 8) dX8_goes_12 (by decide) ?_
    first | refine r_icmp_eq_n (tgt := 23) dX8_goes_14 (by decide) (by omega) (by omega) (fun h14 => ?_) (fun h14 => by exfalso; omega) | refine r_icmp_eq_pn (tgt := 23) dX8_goes_14 (by decide) (by omega) (by omega) (fun h14 => ?_) (fun h14 => by exfalso; omega) | refine r_icmp_eq_pm (tgt := 23) dX8_goes_14 (by decide) (by omega) (fun h14 => ?_) (fun h14 => by exfalso; omega) | refine r_icmp_eq (tgt := 23) dX8_goes_14 (by decide) (fun h14 => ?_) (fun h14 => by exfalso; omega)
    refine ends 8 hs rfl (fun a b r hr => ?_)
    subst hr
    have z18 : F 18 = r.length + 1 := z18
    obtain ⟨t1, t2, t3, t4, t5, t6⟩ := zst
    simp only [List.length_cons] at zl
    have u : ∀ x, (if 0 < zLeft (wm W) (wk W) z (r.length + 1) then Sum.inl (7, k + 1, zLeft (wm W) (wk W) z (r.length + 1)) else if pa = true then .inr (zEnd z (r.length + 1), (9, a, b) :: r) else .inr (a, (9, a, zEnd z (r.length + 1)) :: r)) = x → zStep W pa k (z, (8, a, b) :: r) = x := fun x hx => by
      unfold zStep
      rw [if_neg (by omega), if_neg (by omega), if_pos (by rw [hs]; rfl)]
      show (if 8 ≠ wso W k then _ else _) = _
      rw [if_neg (show ¬ 8 ≠ wso W k by omega), if_neg (show ¬ wso W k = 1 by omega), if_pos hs]
      exact hx
    have hLe := hLe _ z18
    refine r_iload_n dX8_goes_65 rfl ?_
    refine r_tableIn (off := 157) (tgt := 223) dX8_goes_66 (by decide) (by decide) (by decide) (by decide) ?_
    first | refine r_aload_n dX8_goes_223 rfl ?_ | refine r_aload_nq dX8_goes_223 rfl ?_ | refine r_aload_nN dX8_goes_223 rfl ?_
    refine r_iload_n dX8_goes_224 rfl ?_
    refine r_callV s_X8_199_v dX8_goes_225 (by first | exact MAt.o (by assumption) | exact MAt.a1 (by assumption) | exact MAt.a2 (by assumption) | exact MAt.a3 (by assumption) | exact MAt.a4 (by assumption) | exact MAt.a5 (by assumption) | exact MAt.a6 (by assumption) | exact MAt.a7 (by assumption) | exact MAt.a8 (by assumption) | exact MAt.a9 (by assumption) | exact MAt.a10 (by assumption) | exact MAt.a11 (by assumption) | exact MAt.a12 (by assumption) | exact MAt.a13 (by assumption) | exact MAt.a14 (by assumption) | exact MAt.a15 (by assumption) | exact MAt.a16 (by assumption)) (by rfl) rfl (Nat.le_of_ble_eq_true rfl) (m_ended h hb k (by omega) (by omega) (by omega) hk3 hz30 (fun hl M hM => ?_) (fun hl M A' hM ha hj => ?_)) 
    skip
    · refine mK_r ?_
      refine r_if_ne_b (tgt := 233) dX8_goes_228 (by decide) (fun h228 => absurd h228 (by decide)) (fun h228 => ?_)
      refine r_iconst (v := nI 0) dX8_goes_231 (by decide) ?_
      refine r_iret rfl (by first | rfl | exact bI_nar _) dX8_goes_232 ?_
      rw [hLe] at hl hM
      exact hE _ (u _ (if_pos hl)) _ _ _ hM (WKp.er _ _ _) rfl rfl rfl
    · refine mK_r ?_
      rw [hLe] at hl
      have e18 : fU F 18 (F 18 - 1) 18 = r.length := by rw [fU_eq, z18]; rfl
      have ze : ∀ j, j < 31 → A' 10 j = zEnd z (r.length + 1) j := fun j hj' => by rw [hj j hj']; exact zEnd_congr zj z18 hj'
      refine r_if_ne_b (tgt := 233) dX8_goes_228 (by decide) (fun h228 => ?_) (fun h228 => absurd h228 (by decide))
      refine r_iload_n dX8_goes_233 rfl ?_
      refine r_if_ne_b (tgt := 283) dX8_goes_234 (by decide) (fun h234 => ?_) (fun h234 => ?_)
      · have hst := u _ (by rw [if_neg (by omega), if_pos h234])
        first | refine r_aload_n dX8_goes_283 rfl ?_ | refine r_aload_nq dX8_goes_283 rfl ?_ | refine r_aload_nN dX8_goes_283 rfl ?_
        refine r_bipush (v := nI 9) dX8_goes_284 (by decide) ?_
        refine r_iload_n dX8_goes_286 rfl ?_
        refine r_callV s_X8_195_v dX8_goes_287 (by first | exact MAt.o (by assumption) | exact MAt.a1 (by assumption) | exact MAt.a2 (by assumption) | exact MAt.a3 (by assumption) | exact MAt.a4 (by assumption) | exact MAt.a5 (by assumption) | exact MAt.a6 (by assumption) | exact MAt.a7 (by assumption) | exact MAt.a8 (by assumption) | exact MAt.a9 (by assumption) | exact MAt.a10 (by assumption) | exact MAt.a11 (by assumption) | exact MAt.a12 (by assumption) | exact MAt.a13 (by assumption) | exact MAt.a14 (by assumption) | exact MAt.a15 (by assumption) | exact MAt.a16 (by assumption)) (by rfl) rfl (Nat.le_of_ble_eq_true rfl) (m_opens hM hb 9 k (by omega) (by omega) (fun M A'' hM o5 o8 oi o11 => ?_))
        refine mK_v ?_
        refine r_iconst (v := nI 1) dX8_goes_290 (by decide) ?_
        refine r_iret rfl (by first | rfl | exact bI_nar _) dX8_goes_291 ?_
        rw [e18] at hM o5 o11
        refine hN _ hst _ _ _ hM ⟨fun i hi => by rw [fU_ne (by omega), fU_ne (by omega)], fun i h5 h10 h11 h12 => by rw [oi i h5 h11]; exact ha i h10⟩ rfl rfl rfl ⟨?_, ?_, fun j hj' => zEnd_le (zb j hj'), ⟨?_, fun h => absurd h (by decide), fun _ hp => absurd (h234.symm.trans hp) (by decide), t4, Or.inr (Or.inr rfl), ?_⟩, ?_⟩
        · rw [fU_eq]; rfl
        · intro j hj'; rw [oi 10 (by decide) (by decide)]; exact ze j hj'
        · rw [o5, fU_eq]
        · refine zSt_up (fun i hi => ?_) (fun j hj => ⟨?_, ?_⟩) t6
          · rw [o5, fU_ne (by omega), ha 5 (by decide)]
          · rw [o11 j (Or.inl hj), ha 11 (by decide)]
          · rw [oi 12 (by decide) (by decide), ha 12 (by decide)]
        · show r.length + 1 ≤ k + 1; omega
      · have hst := u _ (by rw [if_neg (by omega), if_neg (by rw [h234]; decide)])
        have q11 : ∀ j, j < 31 → A' 11 (31 * (r.length + 1) + j) = a j := fun j hj => by rw [ha 11 (by decide)]; exact t2 rfl h234 j hj
        first | refine r_aload_n dX8_goes_237 rfl ?_ | refine r_aload_nq dX8_goes_237 rfl ?_ | refine r_aload_nN dX8_goes_237 rfl ?_
        refine r_getf f_X8_37_7 (by first | exact MAt.o (by assumption) | exact MAt.a1 (by assumption) | exact MAt.a2 (by assumption) | exact MAt.a3 (by assumption) | exact MAt.a4 (by assumption) | exact MAt.a5 (by assumption) | exact MAt.a6 (by assumption) | exact MAt.a7 (by assumption) | exact MAt.a8 (by assumption) | exact MAt.a9 (by assumption) | exact MAt.a10 (by assumption) | exact MAt.a11 (by assumption) | exact MAt.a12 (by assumption) | exact MAt.a13 (by assumption) | exact MAt.a14 (by assumption) | exact MAt.a15 (by assumption) | exact MAt.a16 (by assumption)) (by rfl) dX8_goes_238 ?_
        refine r_iconst (v := nI 0) dX8_goes_241 (by decide) ?_
        first | refine r_aload_n dX8_goes_242 rfl ?_ | refine r_aload_nq dX8_goes_242 rfl ?_ | refine r_aload_nN dX8_goes_242 rfl ?_
        refine r_getf f_X8_43_7 (by first | exact MAt.o (by assumption) | exact MAt.a1 (by assumption) | exact MAt.a2 (by assumption) | exact MAt.a3 (by assumption) | exact MAt.a4 (by assumption) | exact MAt.a5 (by assumption) | exact MAt.a6 (by assumption) | exact MAt.a7 (by assumption) | exact MAt.a8 (by assumption) | exact MAt.a9 (by assumption) | exact MAt.a10 (by assumption) | exact MAt.a11 (by assumption) | exact MAt.a12 (by assumption) | exact MAt.a13 (by assumption) | exact MAt.a14 (by assumption) | exact MAt.a15 (by assumption) | exact MAt.a16 (by assumption)) (by rfl) dX8_goes_243 ?_
        refine r_bipush (v := nI 31) dX8_goes_246 (by decide) ?_
        first | refine r_aload_n dX8_goes_248 rfl ?_ | refine r_aload_nq dX8_goes_248 rfl ?_ | refine r_aload_nN dX8_goes_248 rfl ?_
        refine r_getf f_X8_173_7 (by first | exact MAt.o (by assumption) | exact MAt.a1 (by assumption) | exact MAt.a2 (by assumption) | exact MAt.a3 (by assumption) | exact MAt.a4 (by assumption) | exact MAt.a5 (by assumption) | exact MAt.a6 (by assumption) | exact MAt.a7 (by assumption) | exact MAt.a8 (by assumption) | exact MAt.a9 (by assumption) | exact MAt.a10 (by assumption) | exact MAt.a11 (by assumption) | exact MAt.a12 (by assumption) | exact MAt.a13 (by assumption) | exact MAt.a14 (by assumption) | exact MAt.a15 (by assumption) | exact MAt.a16 (by assumption)) (by rfl) dX8_goes_249 ?_
        rw [e18]
        refine r_iconst (v := nI 1) dX8_goes_252 (by decide) ?_
        first | refine r_iadd_n dX8_goes_253 ?_ | refine r_iadd dX8_goes_253 ?_
        first | refine r_imul_n dX8_goes_254 ?_ | refine r_imul dX8_goes_254 ?_
        refine r_bipush (v := nI 31) dX8_goes_255 (by decide) ?_
        refine r_mcopyS (n0 := 31) (n1 := 775) (MAt.a10 hM) (MAt.a12 hM) q1836 (by omega) (by omega) (by omega) (by omega) (by omega) (by omega) (Nat.le_of_ble_eq_true rfl) dX8_goes_257 ?_
        refine MAt.k12 (by assumption) (fun M hM => ?_)
        first | refine r_aload_n dX8_goes_260 rfl ?_ | refine r_aload_nq dX8_goes_260 rfl ?_ | refine r_aload_nN dX8_goes_260 rfl ?_
        refine r_getf f_X8_40_7 (by first | exact MAt.o (by assumption) | exact MAt.a1 (by assumption) | exact MAt.a2 (by assumption) | exact MAt.a3 (by assumption) | exact MAt.a4 (by assumption) | exact MAt.a5 (by assumption) | exact MAt.a6 (by assumption) | exact MAt.a7 (by assumption) | exact MAt.a8 (by assumption) | exact MAt.a9 (by assumption) | exact MAt.a10 (by assumption) | exact MAt.a11 (by assumption) | exact MAt.a12 (by assumption) | exact MAt.a13 (by assumption) | exact MAt.a14 (by assumption) | exact MAt.a15 (by assumption) | exact MAt.a16 (by assumption)) (by rfl) dX8_goes_261 ?_
        refine r_bipush (v := nI 31) dX8_goes_264 (by decide) ?_
        first | refine r_aload_n dX8_goes_266 rfl ?_ | refine r_aload_nq dX8_goes_266 rfl ?_ | refine r_aload_nN dX8_goes_266 rfl ?_
        refine r_getf f_X8_173_7 (by first | exact MAt.o (by assumption) | exact MAt.a1 (by assumption) | exact MAt.a2 (by assumption) | exact MAt.a3 (by assumption) | exact MAt.a4 (by assumption) | exact MAt.a5 (by assumption) | exact MAt.a6 (by assumption) | exact MAt.a7 (by assumption) | exact MAt.a8 (by assumption) | exact MAt.a9 (by assumption) | exact MAt.a10 (by assumption) | exact MAt.a11 (by assumption) | exact MAt.a12 (by assumption) | exact MAt.a13 (by assumption) | exact MAt.a14 (by assumption) | exact MAt.a15 (by assumption) | exact MAt.a16 (by assumption)) (by rfl) dX8_goes_267 ?_
        rw [e18]
        refine r_iconst (v := nI 1) dX8_goes_270 (by decide) ?_
        first | refine r_iadd_n dX8_goes_271 ?_ | refine r_iadd dX8_goes_271 ?_
        first | refine r_imul_n dX8_goes_272 ?_ | refine r_imul dX8_goes_272 ?_
        first | refine r_aload_n dX8_goes_273 rfl ?_ | refine r_aload_nq dX8_goes_273 rfl ?_ | refine r_aload_nN dX8_goes_273 rfl ?_
        refine r_getf f_X8_37_7 (by first | exact MAt.o (by assumption) | exact MAt.a1 (by assumption) | exact MAt.a2 (by assumption) | exact MAt.a3 (by assumption) | exact MAt.a4 (by assumption) | exact MAt.a5 (by assumption) | exact MAt.a6 (by assumption) | exact MAt.a7 (by assumption) | exact MAt.a8 (by assumption) | exact MAt.a9 (by assumption) | exact MAt.a10 (by assumption) | exact MAt.a11 (by assumption) | exact MAt.a12 (by assumption) | exact MAt.a13 (by assumption) | exact MAt.a14 (by assumption) | exact MAt.a15 (by assumption) | exact MAt.a16 (by assumption)) (by rfl) dX8_goes_274 ?_
        refine r_iconst (v := nI 0) dX8_goes_277 (by decide) ?_
        refine r_bipush (v := nI 31) dX8_goes_278 (by decide) ?_
        refine r_mcopyS (n0 := 775) (n1 := 31) (MAt.a11 hM) (MAt.a10 hM) q1836 (by omega) (by omega) (by omega) (by omega) (by omega) (by omega) (Nat.le_of_ble_eq_true rfl) dX8_goes_280 ?_
        refine MAt.k10 (by assumption) (fun M hM => ?_)
        first | refine r_aload_n dX8_goes_283 rfl ?_ | refine r_aload_nq dX8_goes_283 rfl ?_ | refine r_aload_nN dX8_goes_283 rfl ?_
        refine r_bipush (v := nI 9) dX8_goes_284 (by decide) ?_
        refine r_iload_n dX8_goes_286 rfl ?_
        refine r_callV s_X8_195_v dX8_goes_287 (by first | exact MAt.o (by assumption) | exact MAt.a1 (by assumption) | exact MAt.a2 (by assumption) | exact MAt.a3 (by assumption) | exact MAt.a4 (by assumption) | exact MAt.a5 (by assumption) | exact MAt.a6 (by assumption) | exact MAt.a7 (by assumption) | exact MAt.a8 (by assumption) | exact MAt.a9 (by assumption) | exact MAt.a10 (by assumption) | exact MAt.a11 (by assumption) | exact MAt.a12 (by assumption) | exact MAt.a13 (by assumption) | exact MAt.a14 (by assumption) | exact MAt.a15 (by assumption) | exact MAt.a16 (by assumption)) (by rfl) rfl (Nat.le_of_ble_eq_true rfl) (m_opens hM hb 9 k (by omega) (by omega) (fun M A'' hM o5 o8 oi o11 => ?_))
        refine mK_v ?_
        refine r_iconst (v := nI 1) dX8_goes_290 (by decide) ?_
        refine r_iret rfl (by first | rfl | exact bI_nar _) dX8_goes_291 ?_
        rw [e18] at hM o5 o11
        refine hN _ hst _ _ _ hM ⟨fun i hi => by rw [fU_ne (by omega), fU_ne (by omega)], fun i h5 h10 h11 h12 => by rw [oi i h5 h11, fA_ne h10, fA_ne h12]; exact ha i h10⟩ rfl rfl rfl ⟨?_, ?_, fun j hj' => (t4 j hj').1, ⟨?_, fun h => absurd h (by decide), fun _ _ j hj' => ?_, fun j hj' => ⟨(t4 j hj').1, zEnd_le (zb j hj')⟩, Or.inr (Or.inr rfl), ?_⟩, ?_⟩
        · rw [fU_eq]; rfl
        · intro j hj'
          rw [oi 10 (by decide) (by decide), fA_eq]
          unfold va_cpy
          rw [if_pos (by omega), fA_ne (by decide)]
          rw [show 31 * (r.length + 1) + (j - 0) = 31 * (r.length + 1) + j by omega]
          exact q11 j hj'
        · rw [o5, fU_eq]
        · rw [oi 12 (by decide) (by decide), fA_ne (by decide), fA_eq]
          unfold va_cpy
          rw [if_pos (by omega), show 0 + (31 * (r.length + 1) + j - 31 * (r.length + 1)) = j by omega]
          exact ze j hj'
        · refine zSt_up (fun i hi => ?_) (fun j hj => ⟨?_, ?_⟩) t6
          · rw [o5, fU_ne (by omega), fA_ne (by decide), fA_ne (by decide), ha 5 (by decide)]
          · rw [o11 j (Or.inl hj), fA_ne (by decide), fA_ne (by decide), ha 11 (by decide)]
          · rw [oi 12 (by decide) (by decide), fA_ne (by decide), fA_eq]
            unfold va_cpy
            rw [if_neg (by omega), ha 12 (by decide)]
        · show r.length + 1 ≤ k + 1; omega
  · rw [s1, hs]
    refine r_istore_n dX8_goes_5 (by decide) ?_
    simp only [mst1, mclr]
    refine r_iload_n dX8_goes_6 rfl ?_
    refine r_iconst (v := nI 1) dX8_goes_7 (by decide) ?_
    first | refine r_icmp_eq_n (tgt := 23) dX8_goes_8 (by decide) (by omega) (by omega) (fun h8 => by exfalso; omega) (fun h8 => ?_) | refine r_icmp_eq_pn (tgt := 23) dX8_goes_8 (by decide) (by omega) (by omega) (fun h8 => by exfalso; omega) (fun h8 => ?_) | refine r_icmp_eq_pm (tgt := 23) dX8_goes_8 (by decide) (by omega) (fun h8 => by exfalso; omega) (fun h8 => ?_) | refine r_icmp_eq (tgt := 23) dX8_goes_8 (by decide) (fun h8 => by exfalso; omega) (fun h8 => ?_)
    refine r_iload_n dX8_goes_11 rfl ?_
    refine r_bipush (v := nI 8) dX8_goes_12 (by decide) ?_
    first | refine r_icmp_eq_n (tgt := 23) dX8_goes_14 (by decide) (by omega) (by omega) (fun h14 => by exfalso; omega) (fun h14 => ?_) | refine r_icmp_eq_pn (tgt := 23) dX8_goes_14 (by decide) (by omega) (by omega) (fun h14 => by exfalso; omega) (fun h14 => ?_) | refine r_icmp_eq_pm (tgt := 23) dX8_goes_14 (by decide) (by omega) (fun h14 => by exfalso; omega) (fun h14 => ?_) | refine r_icmp_eq (tgt := 23) dX8_goes_14 (by decide) (fun h14 => by exfalso; omega) (fun h14 => ?_)
    refine r_iload_n dX8_goes_17 rfl ?_
    refine r_bipush (v := nI 9) dX8_goes_18 (by decide) ?_
    first | refine r_icmp_ne_n (tgt := 27) dX8_goes_20 (by decide) (by omega) (by omega) (fun h20 => by exfalso; omega) (fun h20 => ?_) | refine r_icmp_ne_pn (tgt := 27) dX8_goes_20 (by decide) (by omega) (by omega) (fun h20 => by exfalso; omega) (fun h20 => ?_) | refine r_icmp_ne_pm (tgt := 27) dX8_goes_20 (by decide) (by omega) (fun h20 => by exfalso; omega) (fun h20 => ?_) | refine r_icmp_ne (tgt := 27) dX8_goes_20 (by decide) (fun h20 => by exfalso; omega) (fun h20 => ?_)
    refine ends 9 hs rfl (fun a b r hr => ?_)
    subst hr
    have z18 : F 18 = r.length + 1 := z18
    obtain ⟨t1, t2, t3, t4, t5, t6⟩ := zst
    simp only [List.length_cons] at zl
    have u : ∀ x, (if 0 < zLeft (wm W) (wk W) z (r.length + 1) then Sum.inl (7, k + 1, zLeft (wm W) (wk W) z (r.length + 1)) else if pa = true then .inr (zEnd z (r.length + 1), r) else if 0 < zUn (wm W) (wk W) (zEnd z (r.length + 1)) b then .inl (8, k + 1, zUn (wm W) (wk W) (zEnd z (r.length + 1)) b) else .inr (zMeet (wm W) (zEnd z (r.length + 1)) b, r)) = x → zStep W pa k (z, (9, a, b) :: r) = x := fun x hx => by
      unfold zStep
      rw [if_neg (by omega), if_neg (by omega), if_pos (by rw [hs]; rfl)]
      show (if 9 ≠ wso W k then _ else _) = _
      rw [if_neg (show ¬ 9 ≠ wso W k by omega), if_neg (show ¬ wso W k = 1 by omega), if_neg (show ¬ wso W k = 8 by omega)]
      exact hx
    have hLe := hLe _ z18
    refine r_iload_n dX8_goes_65 rfl ?_
    refine r_tableOut (tgt := 292) dX8_goes_66 (by decide) (by decide) ?_
    first | refine r_aload_n dX8_goes_292 rfl ?_ | refine r_aload_nq dX8_goes_292 rfl ?_ | refine r_aload_nN dX8_goes_292 rfl ?_
    refine r_iload_n dX8_goes_293 rfl ?_
    refine r_callV s_X8_199_v dX8_goes_294 (by first | exact MAt.o (by assumption) | exact MAt.a1 (by assumption) | exact MAt.a2 (by assumption) | exact MAt.a3 (by assumption) | exact MAt.a4 (by assumption) | exact MAt.a5 (by assumption) | exact MAt.a6 (by assumption) | exact MAt.a7 (by assumption) | exact MAt.a8 (by assumption) | exact MAt.a9 (by assumption) | exact MAt.a10 (by assumption) | exact MAt.a11 (by assumption) | exact MAt.a12 (by assumption) | exact MAt.a13 (by assumption) | exact MAt.a14 (by assumption) | exact MAt.a15 (by assumption) | exact MAt.a16 (by assumption)) (by rfl) rfl (Nat.le_of_ble_eq_true rfl) (m_ended h hb k (by omega) (by omega) (by omega) hk3 hz30 (fun hl M hM => ?_) (fun hl M A' hM ha hj => ?_)) 
    skip
    · refine mK_r ?_
      refine r_if_eq_b (tgt := 316) dX8_goes_297 (by decide) (fun h297 => ?_) (fun h297 => absurd h297 (by decide))
      refine r_iconst (v := nI 0) dX8_goes_316 (by decide) ?_
      refine r_iret rfl (by first | rfl | exact bI_nar _) dX8_goes_317 ?_
      rw [hLe] at hl hM
      exact hE _ (u _ (if_pos hl)) _ _ _ hM (WKp.er _ _ _) rfl rfl rfl
    · refine mK_r ?_
      rw [hLe] at hl
      have e18 : fU F 18 (F 18 - 1) 18 = r.length := by rw [fU_eq, z18]; rfl
      have ze : ∀ j, j < 31 → A' 10 j = zEnd z (r.length + 1) j := fun j hj' => by rw [hj j hj']; exact zEnd_congr zj z18 hj'
      refine r_if_eq_b (tgt := 316) dX8_goes_297 (by decide) (fun h297 => absurd h297 (by decide)) (fun h297 => ?_)
      refine r_iload_n dX8_goes_300 rfl ?_
      refine r_if_ne_b (tgt := 312) dX8_goes_301 (by decide) (fun h301 => ?_) (fun h301 => ?_)
      · have hst := u _ (by rw [if_neg (by omega), if_pos h301])
        refine r_iconst (v := nI 1) dX8_goes_312 (by decide) ?_
        refine r_goto (tgt := 317) dX8_goes_313 (by decide) ?_
        refine r_iret rfl (by first | rfl | exact bI_nar _) dX8_goes_317 ?_
        refine hN _ hst _ _ _ hM ⟨fun i hi => by rw [fU_ne (by omega)], fun i h5 h10 h11 h12 => ha i h10⟩ rfl rfl rfl ⟨e18, ze, fun j hj' => zEnd_le (zb j hj'), ?_, ?_⟩
        · refine zSt_up (fun i hi => ?_) (fun j hj => ⟨?_, ?_⟩) t6
          · rw [ha 5 (by decide)]
          · rw [ha 11 (by decide)]
          · rw [ha 12 (by decide)]
        · show r.length ≤ k + 1; omega
      · have a1 : A' 1 = A 1 := ha 1 (by decide)
        have q12 : ∀ j, j < 31 → A' 12 (31 * (fU F 18 (F 18 - 1) 18 + 1) + j) = b j ∧ b j ≤ 30 := fun j hj => by rw [e18, ha 12 (by decide)]; exact ⟨t3 rfl h301 j hj, (t4 j hj).2⟩
        have eU : zUn (A' 1 0) (fun g => A' 1 (21 + g)) (A' 10) b = zUn (wm W) (wk W) (zEnd z (r.length + 1)) b := zUn_congr (by rw [a1]; exact e0) (by rw [a1]; omega) (fun g hg => by rw [a1] at hg ⊢; exact hkW g hg) ze (fun _ _ => rfl)
        first | refine r_aload_n dX8_goes_304 rfl ?_ | refine r_aload_nq dX8_goes_304 rfl ?_ | refine r_aload_nN dX8_goes_304 rfl ?_
        refine r_iload_n dX8_goes_305 rfl ?_
        refine r_callV s_X8_213_v dX8_goes_306 (by first | exact MAt.o (by assumption) | exact MAt.a1 (by assumption) | exact MAt.a2 (by assumption) | exact MAt.a3 (by assumption) | exact MAt.a4 (by assumption) | exact MAt.a5 (by assumption) | exact MAt.a6 (by assumption) | exact MAt.a7 (by assumption) | exact MAt.a8 (by assumption) | exact MAt.a9 (by assumption) | exact MAt.a10 (by assumption) | exact MAt.a11 (by assumption) | exact MAt.a12 (by assumption) | exact MAt.a13 (by assumption) | exact MAt.a14 (by assumption) | exact MAt.a15 (by assumption) | exact MAt.a16 (by assumption)) (by rfl) rfl (Nat.le_of_ble_eq_true rfl) (m_meets hM hb k b (by omega) (by rw [a1]; omega) (by rw [a1]; exact hk3) (fun j hj' => by rw [ze j hj']; exact zEnd_le (zb j hj')) q12 (fun hl2 M hM => ?_) (fun hl2 M A'' hM ha2 hj2 => ?_)) 
        skip
        · refine mK_r ?_
          rw [eU] at hl2 hM
          refine r_if_eq_b (tgt := 316) dX8_goes_309 (by decide) (fun h309 => ?_) (fun h309 => absurd h309 (by decide))
          refine r_iconst (v := nI 0) dX8_goes_316 (by decide) ?_
          refine r_iret rfl (by first | rfl | exact bI_nar _) dX8_goes_317 ?_
          exact hE _ (u _ (by rw [if_neg (by omega), if_neg (by rw [h301]; decide), if_pos hl2])) _ _ _ hM (WKp.tr ⟨fun i hi => by rw [fU_ne (by omega)], fun i h5 h10 h11 h12 => ha i h10⟩ (WKp.er _ _ _)) rfl rfl rfl
        · refine mK_r ?_
          rw [eU] at hl2
          refine r_if_eq_b (tgt := 316) dX8_goes_309 (by decide) (fun h309 => absurd h309 (by decide)) (fun h309 => ?_)
          refine r_iconst (v := nI 1) dX8_goes_312 (by decide) ?_
          refine r_goto (tgt := 317) dX8_goes_313 (by decide) ?_
          refine r_iret rfl (by first | rfl | exact bI_nar _) dX8_goes_317 ?_
          refine hN _ (u _ (by rw [if_neg (by omega), if_neg (by rw [h301]; decide), if_neg (by omega)])) _ _ _ hM ⟨fun i hi => by rw [fU_ne (by omega)], fun i h5 h10 h11 h12 => by rw [ha2 i h10]; exact ha i h10⟩ rfl rfl rfl ⟨e18, ?_, ?_, ?_, ?_⟩
          · intro j hj'
            rw [hj2 j hj']
            exact zMeet_congr (by rw [a1]; exact e0) (by rw [a1]; omega) ze (fun _ _ => rfl) hj'
          · intro j hj'; exact zMeet_le (zEnd_le (zb j hj')) (t4 j hj').2
          · refine zSt_up (fun i hi => ?_) (fun j hj => ⟨?_, ?_⟩) t6
            · rw [ha2 5 (by decide), ha 5 (by decide)]
            · rw [ha2 11 (by decide), ha 11 (by decide)]
            · rw [ha2 12 (by decide), ha 12 (by decide)]
          · show r.length ≤ k + 1; omega
end WALK3
