/-! ===== the model goes through all clauses ===== -/
theorem zRun_err {W : WT} {pa : Bool} {on : Nat → Bool} {e : ZE} {k : Nat} (h : zRun W pa on k = .inl e) : ∀ j, zRun W pa on (k + j) = .inl e
  | 0 => h
  | j + 1 => by
    show (match zRun W pa on (k + j) with | .inl e => _ | .inr Z => _) = _
    rw [zRun_err h j]
def spWrong (X : XT) (w : Int32) : Nat × Int32 := if ¬ inR w 0 2 = true then (1, 0) else (0, match w.toNatClampNeg with | 0 => nI (zAll (xW X)).1 | 1 => pI (zAll (xW X)).2.1 | _ => pI (zAll (xW X)).2.2)
def spSound (X : XT) : Nat × Bool := (0, decide ((zAll (xW X)).1 = 0))
def spGoodAt (X : XT) (g p : Int32) : Nat × Int32 := if ¬ inB g (wm (xW X)) = true then (1, 0) else if ¬ inR p 0 (wn (xW X)) = true then (2, 0) else
  (0, match zRun (xW X) false (fun _ => true) p.toNatClampNeg with | .inl _ => -1 | .inr Z => nI (Z.1 g.toNatClampNeg))
def spPloughAt (X : XT) (g p : Int32) : Nat × Int32 := if ¬ inR g 0 4 = true then (1, 0) else if ¬ inR p 0 (wn (xW X)) = true then (2, 0) else
  (0, match zRun (xW X) false (fun _ => true) p.toNatClampNeg with | .inl _ => -2 | .inr Z => pI (Z.1 (16 + g.toNatClampNeg)))
def zP (r : ZE ⊕ ZT) : Prop := match r with
  | .inl e => 0 < e.1 ∧ e.1 ≤ 8
  | .inr _ => True
theorem zP_ite {c : Prop} [Decidable c] {a b : ZE ⊕ ZT} (ha : zP a) (hb : zP b) : zP (if c then a else b) := by
  split
  · exact ha
  · exact hb
theorem zStep_P (W : WT) (pa : Bool) (k : Nat) (Z : ZT) : zP (zStep W pa k Z) := by
  obtain ⟨z, st⟩ := Z
  unfold zStep
  refine zP_ite trivial (zP_ite trivial (zP_ite ?_ ?_))
  · cases st with
    | nil => exact ⟨Nat.succ_pos _, Nat.le_of_ble_eq_true rfl⟩
    | cons q r =>
      obtain ⟨e, a, b⟩ := q
      show zP (if e ≠ wso W k then _ else _)
      refine zP_ite ⟨Nat.succ_pos _, Nat.le_of_ble_eq_true rfl⟩ (zP_ite ⟨Nat.succ_pos _, Nat.le_of_ble_eq_true rfl⟩ (zP_ite trivial (zP_ite (zP_ite trivial trivial) (zP_ite trivial (zP_ite ⟨Nat.succ_pos _, Nat.le_of_ble_eq_true rfl⟩ trivial)))))
  · refine zP_ite (zP_ite ⟨Nat.succ_pos _, Nat.le_of_ble_eq_true rfl⟩ trivial) (zP_ite (zP_ite ⟨Nat.succ_pos _, Nat.le_of_ble_eq_true rfl⟩ (zP_ite ⟨Nat.succ_pos _, Nat.le_of_ble_eq_true rfl⟩ trivial)) (zP_ite (zP_ite ⟨Nat.succ_pos _, Nat.le_of_ble_eq_true rfl⟩ trivial) (zP_ite ⟨Nat.succ_pos _, Nat.le_of_ble_eq_true rfl⟩ (zP_ite ⟨Nat.succ_pos _, Nat.le_of_ble_eq_true rfl⟩ (zP_ite ⟨Nat.succ_pos _, Nat.le_of_ble_eq_true rfl⟩ trivial)))))
theorem zStep_er {W : WT} {pa : Bool} {k : Nat} {Z : ZT} {e : ZE} (h : zStep W pa k Z = .inl e) : e.1 ≤ 8 ∧ 0 < e.1 := by
  have := zStep_P W pa k Z
  rw [h] at this
  exact ⟨this.2, this.1⟩
theorem zRun_er {W : WT} {pa : Bool} {on : Nat → Bool} {e : ZE} : ∀ {n : Nat}, zRun W pa on n = .inl e → e.1 ≤ 8 ∧ 0 < e.1
  | 0, h => by cases h
  | n + 1, h => by
    have h : (match zRun W pa on n with | .inl e => Sum.inl e | .inr Z => if on n = true then zStep W pa n Z else .inr Z) = .inl e := h
    split at h
    · rename_i e' he
      cases h
      exact zRun_er he
    · split at h
      · exact zStep_er h
      · cases h
theorem zFin_le (W : WT) {pa : Bool} {on : Nat → Bool} (n : Nat) : (zFin W (zRun W pa on n)).1 ≤ 8 := by
  unfold zFin
  split
  · rename_i e he; exact (zRun_er he).1
  · split
    · exact Nat.le_of_ble_eq_true rfl
    · split <;> exact Nat.le_of_ble_eq_true rfl
section WALK4
variable {G : mG} {y : mY} {d pc : Nat} {L : List (Option Value)} {st : List Value} {B M : mM} {m t u th : Nat} {X : XT} {F : Nat → Nat} {D : Int32} {A : Nat → Nat → Nat} {Q : mQt}
theorem WKp.k {F' : Nat → Nat} {A' : Nat → Nat → Nat} (h : WKp F F' A A') : MKp F F' A A' :=
  ⟨h.1 3 (by omega), h.1 5 (by omega), h.1 7 (by omega), h.1 26 (by omega), h.1 28 (by omega), h.1 29 (by omega), h.2 1 (by decide) (by decide) (by decide) (by decide), h.2 3 (by decide) (by decide) (by decide) (by decide), h.2 4 (by decide) (by decide) (by decide) (by decide), h.2 14 (by decide) (by decide) (by decide) (by decide), h.2 15 (by decide) (by decide) (by decide) (by decide)⟩
theorem m_goesTo (h : MAt B M m F D A) (hb : mGb G ≤ m) {W : WT} (hw : wOk W) (hR : mR W (A 1)) (p : Nat) (hp : p ≤ wn W)
   (hE : ∀ e, zRun W false (fun _ => true) p = .inl e → ∀ M F' A', MAt B M m F' D A' → WKp F F' A A' → F' 19 = e.1 → F' 20 = e.2.1 → F' 21 = e.2.2 → Q (.inl (some (.int (bI false)))) M t u)
   (hN : ∀ Z, zRun W false (fun _ => true) p = .inr Z → ∀ M F' A', MAt B M m F' D A' → WKp F F' A A' → F' 19 = 0 → F' 20 = 0 → F' 21 = 0 → ZM F' A' false p Z → Q (.inl (some (.int (bI true)))) M t u) : mMet G (d + 4) zX8_goesTo [.ref m, .int (nI p)] M t u Q := by
  refine m_intro (by decide +kernel) ⟨Nat.le_of_ble_eq_true rfl, Nat.le_of_ble_eq_true rfl⟩ ?_
  show mW G _ _ 0 [some (.ref m), some (.int (nI p)), none, none] [] _ _ _ _
  have hn : wn W ≤ 24 := hw.2.1
  have loop : ∀ n k M F' A' Z, k + n = p → MAt B M m F' D A' → WKp F F' A A' → F' 19 = 0 → F' 20 = 0 → F' 21 = 0 → ZM F' A' false k Z → zRun W false (fun _ => true) k = .inr Z → mW G zX8_goesTo (d + 4) 8 [some (.ref m), some (.int (nI p)), some (.int (bI true)), some (.int (nI k))] [] M t u Q := by
    intro n
    induction n with
    | zero =>
      intro k M F' A' Z hk hM hK f1 f2 f3 hZ hr
      have hk : k = p := by omega
      subst hk
      refine r_iload_n dX8_goesTo_8 rfl ?_
      refine r_iload_n dX8_goesTo_9 rfl ?_
      first | refine r_icmp_ge_n (tgt := 30) dX8_goesTo_10 (by decide) (by omega) (by omega) (fun h10 => ?_) (fun h10 => by exfalso; omega) | refine r_icmp_ge (tgt := 30) dX8_goesTo_10 (by decide) (fun h10 => ?_) (fun h10 => by exfalso; omega)
      refine r_iload_n dX8_goesTo_30 rfl ?_
      refine r_iret rfl (by first | rfl | exact bI_nar _) dX8_goesTo_31 ?_
      exact hN _ hr _ _ _ hM hK f1 f2 f3 hZ
    | succ n ih =>
      intro k M F' A' Z hk hM hK f1 f2 f3 hZ hr
      have hR' : mR W (A' 1) := by rw [hK.2 1 (by decide) (by decide) (by decide) (by decide)]; exact hR
      have hs : zRun W false (fun _ => true) (k + 1) = zStep W false k Z := by
        show (match zRun W false (fun _ => true) k with | .inl e => _ | .inr Z => _) = _
        rw [hr]; rfl
      refine r_iload_n dX8_goesTo_8 rfl ?_
      refine r_iload_n dX8_goesTo_9 rfl ?_
      first | refine r_icmp_ge_n (tgt := 30) dX8_goesTo_10 (by decide) (by omega) (by omega) (fun h10 => by exfalso; omega) (fun h10 => ?_) | refine r_icmp_ge (tgt := 30) dX8_goesTo_10 (by decide) (fun h10 => by exfalso; omega) (fun h10 => ?_)
      refine r_iload_n dX8_goesTo_13 rfl ?_
      refine r_if_eq_b (tgt := 30) dX8_goesTo_14 (by decide) (fun h14 => absurd h14 (by decide)) (fun h14 => ?_)
      first | refine r_aload_n dX8_goesTo_17 rfl ?_ | refine r_aload_nq dX8_goesTo_17 rfl ?_ | refine r_aload_nN dX8_goesTo_17 rfl ?_
      refine r_iload_n dX8_goesTo_18 rfl ?_
      refine r_iconst (v := nI 0) dX8_goesTo_19 (by decide) ?_
      refine r_callV s_X8_219_v dX8_goesTo_20 (by first | exact MAt.o (by assumption) | exact MAt.a1 (by assumption) | exact MAt.a2 (by assumption) | exact MAt.a3 (by assumption) | exact MAt.a4 (by assumption) | exact MAt.a5 (by assumption) | exact MAt.a6 (by assumption) | exact MAt.a7 (by assumption) | exact MAt.a8 (by assumption) | exact MAt.a9 (by assumption) | exact MAt.a10 (by assumption) | exact MAt.a11 (by assumption) | exact MAt.a12 (by assumption) | exact MAt.a13 (by assumption) | exact MAt.a14 (by assumption) | exact MAt.a15 (by assumption) | exact MAt.a16 (by assumption)) (by rfl) rfl (Nat.le_of_ble_eq_true rfl) (m_goes hM hb hw hR' false k (by omega) hZ (fun e he M F'' A'' hM hK' g1 g2 g3 => ?_) (fun Z' hZ' M F'' A'' hM hK' g1 g2 g3 hZM => ?_)) 
      skip
      · refine mK_r ?_
        have hall : zRun W false (fun _ => true) p = .inl e := by
          have := zRun_err (hs.trans he) n
          rw [show k + 1 + n = p by omega] at this
          exact this
        refine r_istore_n dX8_goesTo_23 (by decide) ?_
        simp only [mst1, mclr]
        first | refine r_iinc_n 1 dX8_goesTo_24 rfl (by decide) ?_ | refine r_iinc dX8_goesTo_24 rfl rfl (by decide) ?_
        simp only [mst1, mclr]
        refine r_goto (tgt := 8) dX8_goesTo_27 (by decide) ?_
        refine r_iload_n dX8_goesTo_8 rfl ?_
        refine r_iload_n dX8_goesTo_9 rfl ?_
        first | refine r_icmp_ge_n (tgt := 30) dX8_goesTo_10 (by decide) (by omega) (by omega) (fun h10 => ?_) (fun h10 => ?_) | refine r_icmp_ge (tgt := 30) dX8_goesTo_10 (by decide) (fun h10 => ?_) (fun h10 => ?_)
        · refine r_iload_n dX8_goesTo_30 rfl ?_
          refine r_iret rfl (by first | rfl | exact bI_nar _) dX8_goesTo_31 ?_
          exact hE _ hall _ _ _ hM (hK.tr hK') g1 g2 g3
        · refine r_iload_n dX8_goesTo_13 rfl ?_
          refine r_if_eq_b (tgt := 30) dX8_goesTo_14 (by decide) (fun h14 => ?_) (fun h14 => absurd h14 (by decide))
          refine r_iload_n dX8_goesTo_30 rfl ?_
          refine r_iret rfl (by first | rfl | exact bI_nar _) dX8_goesTo_31 ?_
          exact hE _ hall _ _ _ hM (hK.tr hK') g1 g2 g3
      · refine mK_r ?_
        refine r_istore_n dX8_goesTo_23 (by decide) ?_
        simp only [mst1, mclr]
        first | refine r_iinc_n 1 dX8_goesTo_24 rfl (by decide) ?_ | refine r_iinc dX8_goesTo_24 rfl rfl (by decide) ?_
        simp only [mst1, mclr]
        refine r_goto (tgt := 8) dX8_goesTo_27 (by decide) ?_
        exact ih (k + 1) M F'' A'' Z' (by omega) hM (hK.tr hK') (by rw [g1]; exact f1) (by rw [g2]; exact f2) (by rw [g3]; exact f3) hZM (hs.trans hZ')
  first | refine r_aload_n dX8_goesTo_0 rfl ?_ | refine r_aload_nq dX8_goesTo_0 rfl ?_ | refine r_aload_nN dX8_goesTo_0 rfl ?_
  refine r_callV s_X8_216_v dX8_goesTo_1 (by first | exact MAt.o (by assumption) | exact MAt.a1 (by assumption) | exact MAt.a2 (by assumption) | exact MAt.a3 (by assumption) | exact MAt.a4 (by assumption) | exact MAt.a5 (by assumption) | exact MAt.a6 (by assumption) | exact MAt.a7 (by assumption) | exact MAt.a8 (by assumption) | exact MAt.a9 (by assumption) | exact MAt.a10 (by assumption) | exact MAt.a11 (by assumption) | exact MAt.a12 (by assumption) | exact MAt.a13 (by assumption) | exact MAt.a14 (by assumption) | exact MAt.a15 (by assumption) | exact MAt.a16 (by assumption)) (by rfl) rfl (Nat.le_of_ble_eq_true rfl) (m_begins h hb (fun M A' hM ha hj => ?_))
  refine mK_v ?_
  refine r_iconst (v := nI 1) dX8_goesTo_4 (by decide) ?_
  refine r_istore_n dX8_goesTo_5 (by decide) ?_
  simp only [mst1, mclr]
  refine r_iconst (v := nI 0) dX8_goesTo_6 (by decide) ?_
  refine r_istore_n dX8_goesTo_7 (by decide) ?_
  simp only [mst1, mclr]
  refine loop p 0 M _ A' (fun _ => 0, []) (by omega) hM ⟨fun i hi => ?_, fun i h5 h10 _ _ => ha i h10⟩ rfl rfl rfl ⟨rfl, hj, fun _ _ => Nat.zero_le _, trivial, Nat.le_refl _⟩ rfl
  rw [fU_ne (by omega), fU_ne (by omega), fU_ne (by omega), fU_ne (by omega)]
theorem m_finishes (h : MAt B M m F D A) (hb : mGb G ≤ m) {W : WT} (hw : wOk W) (hR : mR W (A 1)) {pa : Bool} {Z : ZT} (hZ : ZM F A pa (wn W) Z) (f1 : F 19 = 0) (f2 : F 20 = 0) (f3 : F 21 = 0)
   (hq : ∀ M F' A', MAt B M m F' D A' → WKp F F' A A' → F' 19 = (zFin W (.inr Z)).1 → F' 20 = (zFin W (.inr Z)).2.1 → F' 21 = (zFin W (.inr Z)).2.2 → Q (.inl none) M t u) : mMet G (d + 1) zX8_finishes [.ref m] M t u Q := by
  refine m_intro (by decide +kernel) ⟨Nat.le_of_ble_eq_true rfl, Nat.le_of_ble_eq_true rfl⟩ ?_
  show mW G _ _ 0 [some (.ref m), none, none] [] _ _ _ _
  obtain ⟨⟨e0, hm⟩, ⟨e1, hn⟩, ⟨e2, hcg⟩, e3, e4, e5⟩ := mR_up hw hR
  obtain ⟨z, st⟩ := Z
  obtain ⟨z18, zj, zb, zst, zl⟩ := hZ
  have zj : ∀ j, j < 31 → A 10 j = z j := zj
  have zb : ∀ j, j < 31 → z j ≤ 30 := zb
  have zl : st.length ≤ wn W := zl
  have z18 : F 18 = st.length := z18
  have zst : zSt A pa st := zst
  have hz30 : ∀ j, j < 31 → A 10 j ≤ 30 := fun j hj => by rw [zj j hj]; exact zb j hj
  have hk3 : ∀ g, g < A 1 0 → A 1 (21 + g) < 3 := fun g hg => by have := e4 g (by omega); omega
  cases st with
  | cons q r =>
    obtain ⟨e, a, b⟩ := q
    have z18 : F 18 = r.length + 1 := z18
    have he5 : A 5 r.length = e := zst.1
    have hx : A 5 (F 18 - 1) = e := by rw [z18]; exact he5
    first | refine r_aload_n dX8_finishes_0 rfl ?_ | refine r_aload_nq dX8_finishes_0 rfl ?_ | refine r_aload_nN dX8_finishes_0 rfl ?_
    refine r_getf f_X8_9_7 (by first | exact MAt.o (by assumption) | exact MAt.a1 (by assumption) | exact MAt.a2 (by assumption) | exact MAt.a3 (by assumption) | exact MAt.a4 (by assumption) | exact MAt.a5 (by assumption) | exact MAt.a6 (by assumption) | exact MAt.a7 (by assumption) | exact MAt.a8 (by assumption) | exact MAt.a9 (by assumption) | exact MAt.a10 (by assumption) | exact MAt.a11 (by assumption) | exact MAt.a12 (by assumption) | exact MAt.a13 (by assumption) | exact MAt.a14 (by assumption) | exact MAt.a15 (by assumption) | exact MAt.a16 (by assumption)) (by rfl) dX8_finishes_1 ?_
    refine r_iconst (v := nI 1) dX8_finishes_4 (by decide) ?_
    refine r_iald_n (by first | exact MAt.o (by assumption) | exact MAt.a1 (by assumption) | exact MAt.a2 (by assumption) | exact MAt.a3 (by assumption) | exact MAt.a4 (by assumption) | exact MAt.a5 (by assumption) | exact MAt.a6 (by assumption) | exact MAt.a7 (by assumption) | exact MAt.a8 (by assumption) | exact MAt.a9 (by assumption) | exact MAt.a10 (by assumption) | exact MAt.a11 (by assumption) | exact MAt.a12 (by assumption) | exact MAt.a13 (by assumption) | exact MAt.a14 (by assumption) | exact MAt.a15 (by assumption) | exact MAt.a16 (by assumption)) (by rfl) (by omega) (by omega) dX8_finishes_5 ?_
    refine r_istore_n dX8_finishes_6 (by decide) ?_
    simp only [mst1, mclr]
    refine r_iconst (v := nI 1) dX8_finishes_7 (by decide) ?_
    refine r_istore_n dX8_finishes_8 (by decide) ?_
    simp only [mst1, mclr]
    first | refine r_aload_n dX8_finishes_9 rfl ?_ | refine r_aload_nq dX8_finishes_9 rfl ?_ | refine r_aload_nN dX8_finishes_9 rfl ?_
    refine r_getf f_X8_173_7 (by first | exact MAt.o (by assumption) | exact MAt.a1 (by assumption) | exact MAt.a2 (by assumption) | exact MAt.a3 (by assumption) | exact MAt.a4 (by assumption) | exact MAt.a5 (by assumption) | exact MAt.a6 (by assumption) | exact MAt.a7 (by assumption) | exact MAt.a8 (by assumption) | exact MAt.a9 (by assumption) | exact MAt.a10 (by assumption) | exact MAt.a11 (by assumption) | exact MAt.a12 (by assumption) | exact MAt.a13 (by assumption) | exact MAt.a14 (by assumption) | exact MAt.a15 (by assumption) | exact MAt.a16 (by assumption)) (by rfl) dX8_finishes_10 ?_
    first | refine r_if_le_n (tgt := 37) dX8_finishes_13 (by decide) (by omega) (fun h13 => by exfalso; omega) (fun h13 => ?_) | refine r_if_le (tgt := 37) dX8_finishes_13 (by decide) (fun h13 => by exfalso; omega) (fun h13 => ?_)
    first | refine r_aload_n dX8_finishes_16 rfl ?_ | refine r_aload_nq dX8_finishes_16 rfl ?_ | refine r_aload_nN dX8_finishes_16 rfl ?_
    refine r_iconst (v := nI 1) dX8_finishes_17 (by decide) ?_
    refine r_iload_n dX8_finishes_18 rfl ?_
    first | refine r_aload_n dX8_finishes_19 rfl ?_ | refine r_aload_nq dX8_finishes_19 rfl ?_ | refine r_aload_nN dX8_finishes_19 rfl ?_
    refine r_getf f_X8_22_7 (by first | exact MAt.o (by assumption) | exact MAt.a1 (by assumption) | exact MAt.a2 (by assumption) | exact MAt.a3 (by assumption) | exact MAt.a4 (by assumption) | exact MAt.a5 (by assumption) | exact MAt.a6 (by assumption) | exact MAt.a7 (by assumption) | exact MAt.a8 (by assumption) | exact MAt.a9 (by assumption) | exact MAt.a10 (by assumption) | exact MAt.a11 (by assumption) | exact MAt.a12 (by assumption) | exact MAt.a13 (by assumption) | exact MAt.a14 (by assumption) | exact MAt.a15 (by assumption) | exact MAt.a16 (by assumption)) (by rfl) dX8_finishes_20 ?_
    first | refine r_aload_n dX8_finishes_23 rfl ?_ | refine r_aload_nq dX8_finishes_23 rfl ?_ | refine r_aload_nN dX8_finishes_23 rfl ?_
    refine r_getf f_X8_173_7 (by first | exact MAt.o (by assumption) | exact MAt.a1 (by assumption) | exact MAt.a2 (by assumption) | exact MAt.a3 (by assumption) | exact MAt.a4 (by assumption) | exact MAt.a5 (by assumption) | exact MAt.a6 (by assumption) | exact MAt.a7 (by assumption) | exact MAt.a8 (by assumption) | exact MAt.a9 (by assumption) | exact MAt.a10 (by assumption) | exact MAt.a11 (by assumption) | exact MAt.a12 (by assumption) | exact MAt.a13 (by assumption) | exact MAt.a14 (by assumption) | exact MAt.a15 (by assumption) | exact MAt.a16 (by assumption)) (by rfl) dX8_finishes_24 ?_
    refine r_iconst (v := nI 1) dX8_finishes_27 (by decide) ?_
    first | refine r_isub_n dX8_finishes_28 (by omega) ?_ | refine r_isub dX8_finishes_28 ?_
    refine r_iald_n (by first | exact MAt.o (by assumption) | exact MAt.a1 (by assumption) | exact MAt.a2 (by assumption) | exact MAt.a3 (by assumption) | exact MAt.a4 (by assumption) | exact MAt.a5 (by assumption) | exact MAt.a6 (by assumption) | exact MAt.a7 (by assumption) | exact MAt.a8 (by assumption) | exact MAt.a9 (by assumption) | exact MAt.a10 (by assumption) | exact MAt.a11 (by assumption) | exact MAt.a12 (by assumption) | exact MAt.a13 (by assumption) | exact MAt.a14 (by assumption) | exact MAt.a15 (by assumption) | exact MAt.a16 (by assumption)) (by rfl) (by omega) (by omega) dX8_finishes_29 ?_
    rw [hx, e1]
    refine r_callV s_X8_188_v dX8_finishes_30 (by first | exact MAt.o (by assumption) | exact MAt.a1 (by assumption) | exact MAt.a2 (by assumption) | exact MAt.a3 (by assumption) | exact MAt.a4 (by assumption) | exact MAt.a5 (by assumption) | exact MAt.a6 (by assumption) | exact MAt.a7 (by assumption) | exact MAt.a8 (by assumption) | exact MAt.a9 (by assumption) | exact MAt.a10 (by assumption) | exact MAt.a11 (by assumption) | exact MAt.a12 (by assumption) | exact MAt.a13 (by assumption) | exact MAt.a14 (by assumption) | exact MAt.a15 (by assumption) | exact MAt.a16 (by assumption)) (by rfl) rfl (Nat.le_of_ble_eq_true rfl) (m_errs h hb 1 (wn W + 1) (e + 1) (fun M hM => ?_))
    refine mK_r ?_
    refine r_istore_n dX8_finishes_33 (by decide) ?_
    simp only [mst1, mclr]
    refine r_goto (tgt := 58) dX8_finishes_34 (by decide) ?_
    refine r_vret rfl dX8_finishes_58 ?_
    exact hq _ _ _ hM (WKp.er _ _ _) rfl rfl rfl
  | nil =>
    have z18 : F 18 = 0 := z18
    have hL : zLeft (A 1 0) (fun g => A 1 (21 + g)) (A 10) 0 = zLeft (wm W) (wk W) z 0 := zLeft_congr e0 (fun g hg => (e4 g (by omega)).1) zj rfl
    have hle : zLeft (wm W) (wk W) z 0 ≤ 8 := by have := loF_le (zLP (wm W) (wk W) z 0) 8 0; unfold zLeft; omega
    first | refine r_aload_n dX8_finishes_0 rfl ?_ | refine r_aload_nq dX8_finishes_0 rfl ?_ | refine r_aload_nN dX8_finishes_0 rfl ?_
    refine r_getf f_X8_9_7 (by first | exact MAt.o (by assumption) | exact MAt.a1 (by assumption) | exact MAt.a2 (by assumption) | exact MAt.a3 (by assumption) | exact MAt.a4 (by assumption) | exact MAt.a5 (by assumption) | exact MAt.a6 (by assumption) | exact MAt.a7 (by assumption) | exact MAt.a8 (by assumption) | exact MAt.a9 (by assumption) | exact MAt.a10 (by assumption) | exact MAt.a11 (by assumption) | exact MAt.a12 (by assumption) | exact MAt.a13 (by assumption) | exact MAt.a14 (by assumption) | exact MAt.a15 (by assumption) | exact MAt.a16 (by assumption)) (by rfl) dX8_finishes_1 ?_
    refine r_iconst (v := nI 1) dX8_finishes_4 (by decide) ?_
    refine r_iald_n (by first | exact MAt.o (by assumption) | exact MAt.a1 (by assumption) | exact MAt.a2 (by assumption) | exact MAt.a3 (by assumption) | exact MAt.a4 (by assumption) | exact MAt.a5 (by assumption) | exact MAt.a6 (by assumption) | exact MAt.a7 (by assumption) | exact MAt.a8 (by assumption) | exact MAt.a9 (by assumption) | exact MAt.a10 (by assumption) | exact MAt.a11 (by assumption) | exact MAt.a12 (by assumption) | exact MAt.a13 (by assumption) | exact MAt.a14 (by assumption) | exact MAt.a15 (by assumption) | exact MAt.a16 (by assumption)) (by rfl) (by omega) (by omega) dX8_finishes_5 ?_
    refine r_istore_n dX8_finishes_6 (by decide) ?_
    simp only [mst1, mclr]
    refine r_iconst (v := nI 1) dX8_finishes_7 (by decide) ?_
    refine r_istore_n dX8_finishes_8 (by decide) ?_
    simp only [mst1, mclr]
    first | refine r_aload_n dX8_finishes_9 rfl ?_ | refine r_aload_nq dX8_finishes_9 rfl ?_ | refine r_aload_nN dX8_finishes_9 rfl ?_
    refine r_getf f_X8_173_7 (by first | exact MAt.o (by assumption) | exact MAt.a1 (by assumption) | exact MAt.a2 (by assumption) | exact MAt.a3 (by assumption) | exact MAt.a4 (by assumption) | exact MAt.a5 (by assumption) | exact MAt.a6 (by assumption) | exact MAt.a7 (by assumption) | exact MAt.a8 (by assumption) | exact MAt.a9 (by assumption) | exact MAt.a10 (by assumption) | exact MAt.a11 (by assumption) | exact MAt.a12 (by assumption) | exact MAt.a13 (by assumption) | exact MAt.a14 (by assumption) | exact MAt.a15 (by assumption) | exact MAt.a16 (by assumption)) (by rfl) dX8_finishes_10 ?_
    first | refine r_if_le_n (tgt := 37) dX8_finishes_13 (by decide) (by omega) (fun h13 => ?_) (fun h13 => by exfalso; omega) | refine r_if_le (tgt := 37) dX8_finishes_13 (by decide) (fun h13 => ?_) (fun h13 => by exfalso; omega)
    first | refine r_aload_n dX8_finishes_37 rfl ?_ | refine r_aload_nq dX8_finishes_37 rfl ?_ | refine r_aload_nN dX8_finishes_37 rfl ?_
    refine r_iconst (v := nI 0) dX8_finishes_38 (by decide) ?_
    refine r_callV s_X8_185_v dX8_finishes_39 (by first | exact MAt.o (by assumption) | exact MAt.a1 (by assumption) | exact MAt.a2 (by assumption) | exact MAt.a3 (by assumption) | exact MAt.a4 (by assumption) | exact MAt.a5 (by assumption) | exact MAt.a6 (by assumption) | exact MAt.a7 (by assumption) | exact MAt.a8 (by assumption) | exact MAt.a9 (by assumption) | exact MAt.a10 (by assumption) | exact MAt.a11 (by assumption) | exact MAt.a12 (by assumption) | exact MAt.a13 (by assumption) | exact MAt.a14 (by assumption) | exact MAt.a15 (by assumption) | exact MAt.a16 (by assumption)) (by rfl) rfl (Nat.le_of_ble_eq_true rfl) (m_leftOf h 0 (by omega) (by omega) hk3 hz30 ?_)
    refine mK_r ?_
    rw [hL]; first | refine r_if_lt_p (tgt := 58) dX8_finishes_42 (by decide) (by omega) (fun h42 => ?_) (fun h42 => ?_)
    · refine r_vret rfl dX8_finishes_58 ?_
      have e : zFin W (.inr (z, [])) = (0, 0, 0) := by show (if 0 < zLeft (wm W) (wk W) z 0 then _ else _) = _; rw [if_neg (by omega)]
      rw [e] at hq
      exact hq _ _ _ h WKp.refl f1 f2 f3
    · have e : zFin W (.inr (z, [])) = (7, wn W + 1, zLeft (wm W) (wk W) z 0) := by show (if 0 < zLeft (wm W) (wk W) z 0 then _ else _) = _; rw [if_pos (by omega)]
      rw [e] at hq
      first | refine r_aload_n dX8_finishes_45 rfl ?_ | refine r_aload_nq dX8_finishes_45 rfl ?_ | refine r_aload_nN dX8_finishes_45 rfl ?_
      refine r_bipush (v := nI 7) dX8_finishes_46 (by decide) ?_
      refine r_iload_n dX8_finishes_48 rfl ?_
      first | refine r_aload_n dX8_finishes_49 rfl ?_ | refine r_aload_nq dX8_finishes_49 rfl ?_ | refine r_aload_nN dX8_finishes_49 rfl ?_
      refine r_iconst (v := nI 0) dX8_finishes_50 (by decide) ?_
      refine r_callV s_X8_185_v dX8_finishes_51 (by first | exact MAt.o (by assumption) | exact MAt.a1 (by assumption) | exact MAt.a2 (by assumption) | exact MAt.a3 (by assumption) | exact MAt.a4 (by assumption) | exact MAt.a5 (by assumption) | exact MAt.a6 (by assumption) | exact MAt.a7 (by assumption) | exact MAt.a8 (by assumption) | exact MAt.a9 (by assumption) | exact MAt.a10 (by assumption) | exact MAt.a11 (by assumption) | exact MAt.a12 (by assumption) | exact MAt.a13 (by assumption) | exact MAt.a14 (by assumption) | exact MAt.a15 (by assumption) | exact MAt.a16 (by assumption)) (by rfl) rfl (Nat.le_of_ble_eq_true rfl) (m_leftOf h 0 (by omega) (by omega) hk3 hz30 ?_)
      refine mK_r ?_
      rw [hL, e1]
      refine r_callV s_X8_188_v dX8_finishes_54 (by first | exact MAt.o (by assumption) | exact MAt.a1 (by assumption) | exact MAt.a2 (by assumption) | exact MAt.a3 (by assumption) | exact MAt.a4 (by assumption) | exact MAt.a5 (by assumption) | exact MAt.a6 (by assumption) | exact MAt.a7 (by assumption) | exact MAt.a8 (by assumption) | exact MAt.a9 (by assumption) | exact MAt.a10 (by assumption) | exact MAt.a11 (by assumption) | exact MAt.a12 (by assumption) | exact MAt.a13 (by assumption) | exact MAt.a14 (by assumption) | exact MAt.a15 (by assumption) | exact MAt.a16 (by assumption)) (by rfl) rfl (Nat.le_of_ble_eq_true rfl) (m_errs h hb 7 (wn W + 1) (zLeft (wm W) (wk W) z 0) (fun M hM => ?_))
      refine mK_r ?_
      refine r_istore_n dX8_finishes_57 (by decide) ?_
      simp only [mst1, mclr]
      refine r_vret rfl dX8_finishes_58 ?_
      exact hq _ _ _ hM (WKp.er _ _ _) rfl rfl rfl
theorem m_looks (h : MAt B M m F D A) (hb : mGb G ≤ m) {W : WT} (hw : wOk W) (hR : mR W (A 1))
   (hq : ∀ M F' A', MAt B M m F' D A' → WKp F F' A A' → F' 19 = (zAll W).1 → F' 20 = (zAll W).2.1 → F' 21 = (zAll W).2.2 → Q (.inl none) M t u) : mMet G (d + 5) zX8_looks [.ref m] M t u Q := by
  refine m_intro (by decide +kernel) ⟨Nat.le_of_ble_eq_true rfl, Nat.le_of_ble_eq_true rfl⟩ ?_
  show mW G _ _ 0 [some (.ref m)] [] _ _ _ _
  have e1 : A 1 1 = wn W := hR.2.1
  have hn : wn W ≤ 24 := hw.2.1
  first | refine r_aload_n dX8_looks_0 rfl ?_ | refine r_aload_nq dX8_looks_0 rfl ?_ | refine r_aload_nN dX8_looks_0 rfl ?_
  first | refine r_aload_n dX8_looks_1 rfl ?_ | refine r_aload_nq dX8_looks_1 rfl ?_ | refine r_aload_nN dX8_looks_1 rfl ?_
  refine r_getf f_X8_9_7 (by first | exact MAt.o (by assumption) | exact MAt.a1 (by assumption) | exact MAt.a2 (by assumption) | exact MAt.a3 (by assumption) | exact MAt.a4 (by assumption) | exact MAt.a5 (by assumption) | exact MAt.a6 (by assumption) | exact MAt.a7 (by assumption) | exact MAt.a8 (by assumption) | exact MAt.a9 (by assumption) | exact MAt.a10 (by assumption) | exact MAt.a11 (by assumption) | exact MAt.a12 (by assumption) | exact MAt.a13 (by assumption) | exact MAt.a14 (by assumption) | exact MAt.a15 (by assumption) | exact MAt.a16 (by assumption)) (by rfl) dX8_looks_2 ?_
  refine r_iconst (v := nI 1) dX8_looks_5 (by decide) ?_
  refine r_iald_n (by first | exact MAt.o (by assumption) | exact MAt.a1 (by assumption) | exact MAt.a2 (by assumption) | exact MAt.a3 (by assumption) | exact MAt.a4 (by assumption) | exact MAt.a5 (by assumption) | exact MAt.a6 (by assumption) | exact MAt.a7 (by assumption) | exact MAt.a8 (by assumption) | exact MAt.a9 (by assumption) | exact MAt.a10 (by assumption) | exact MAt.a11 (by assumption) | exact MAt.a12 (by assumption) | exact MAt.a13 (by assumption) | exact MAt.a14 (by assumption) | exact MAt.a15 (by assumption) | exact MAt.a16 (by assumption)) (by rfl) (by omega) (by omega) dX8_looks_6 ?_
  rw [e1]
  refine r_callV s_X8_223_v dX8_looks_7 (by first | exact MAt.o (by assumption) | exact MAt.a1 (by assumption) | exact MAt.a2 (by assumption) | exact MAt.a3 (by assumption) | exact MAt.a4 (by assumption) | exact MAt.a5 (by assumption) | exact MAt.a6 (by assumption) | exact MAt.a7 (by assumption) | exact MAt.a8 (by assumption) | exact MAt.a9 (by assumption) | exact MAt.a10 (by assumption) | exact MAt.a11 (by assumption) | exact MAt.a12 (by assumption) | exact MAt.a13 (by assumption) | exact MAt.a14 (by assumption) | exact MAt.a15 (by assumption) | exact MAt.a16 (by assumption)) (by rfl) rfl (Nat.le_of_ble_eq_true rfl) (m_goesTo h hb hw hR (wn W) (Nat.le_refl _) (fun e he M F' A' hM hK g1 g2 g3 => ?_) (fun Z hZ M F' A' hM hK g1 g2 g3 hZM => ?_)) 
  skip
  · refine mK_r ?_
    have eA : zAll W = e := by unfold zAll; rw [he]; rfl
    refine r_if_eq_b (tgt := 17) dX8_looks_10 (by decide) (fun h10 => ?_) (fun h10 => absurd h10 (by decide))
    refine r_vret rfl dX8_looks_17 ?_
    exact hq _ _ _ hM hK (by rw [eA]; exact g1) (by rw [eA]; exact g2) (by rw [eA]; exact g3)
  · refine mK_r ?_
    have eA : zAll W = zFin W (.inr Z) := by unfold zAll; rw [hZ]
    have hR' : mR W (A' 1) := by rw [hK.2 1 (by decide) (by decide) (by decide) (by decide)]; exact hR
    refine r_if_eq_b (tgt := 17) dX8_looks_10 (by decide) (fun h10 => absurd h10 (by decide)) (fun h10 => ?_)
    first | refine r_aload_n dX8_looks_13 rfl ?_ | refine r_aload_nq dX8_looks_13 rfl ?_ | refine r_aload_nN dX8_looks_13 rfl ?_
    refine r_callV s_X8_226_v dX8_looks_14 (by first | exact MAt.o (by assumption) | exact MAt.a1 (by assumption) | exact MAt.a2 (by assumption) | exact MAt.a3 (by assumption) | exact MAt.a4 (by assumption) | exact MAt.a5 (by assumption) | exact MAt.a6 (by assumption) | exact MAt.a7 (by assumption) | exact MAt.a8 (by assumption) | exact MAt.a9 (by assumption) | exact MAt.a10 (by assumption) | exact MAt.a11 (by assumption) | exact MAt.a12 (by assumption) | exact MAt.a13 (by assumption) | exact MAt.a14 (by assumption) | exact MAt.a15 (by assumption) | exact MAt.a16 (by assumption)) (by rfl) rfl (Nat.le_of_ble_eq_true rfl) (m_finishes hM hb hw hR' hZM g1 g2 g3 (fun M F'' A'' hM hK' k1 k2 k3 => ?_))
    refine mK_v ?_
    refine r_vret rfl dX8_looks_17 ?_
    exact hq _ _ _ hM (hK.tr hK') (by rw [eA]; exact k1) (by rw [eA]; exact k2) (by rw [eA]; exact k3)
theorem m_wrong (h : MX B M m X th) (hb : mGb G ≤ m) (w : Int32) (hq : ∀ M, MX B M m X (spWrong X w).1 → Q (.inl (some (.int (spWrong X w).2))) M t u) : mMet G (d + 6) zX8_wrong [.ref m, .int w] M t u Q := by
  refine m_intro (by decide +kernel) ⟨Nat.le_of_ble_eq_true rfl, Nat.le_of_ble_eq_true rfl⟩ ?_
  show mW G _ _ 0 [some (.ref m), some (.int w)] [] _ _ _ _
  obtain ⟨F, A, hM, hP, hR, h6⟩ := h.un
  unfold spWrong at hq
  first | refine r_aload_n dX8_wrong_0 rfl ?_ | refine r_aload_nq dX8_wrong_0 rfl ?_ | refine r_aload_nN dX8_wrong_0 rfl ?_
  refine r_iload_n dX8_wrong_1 rfl ?_
  refine r_iconst (v := nI 0) dX8_wrong_2 (by decide) ?_
  refine r_iconst (v := nI 2) dX8_wrong_3 (by decide) ?_
  refine r_callS s_X8_82_s dX8_wrong_4 (by rfl) rfl (Nat.le_of_ble_eq_true rfl) (m_in _ _ _ (nm_e ?_))
  refine mK_r ?_
  first | refine r_if_eq_b (tgt := 14) dX8_wrong_7 (by decide) (fun h7 => ?_) (fun h7 => ?_) | refine r_if_eq_n (tgt := 14) dX8_wrong_7 (by decide) (by omega) (fun h7 => ?_) (fun h7 => ?_) | refine r_if_eq (tgt := 14) dX8_wrong_7 (by decide) (fun h7 => ?_) (fun h7 => ?_)
  · rw [if_pos (by rw [show inR w 0 2 = false from h7]; decide)] at hq
    refine r_iconst (v := nI 1) dX8_wrong_14 (by decide) ?_
    refine r_putf f_X8_64_7 ft_7_6 (by first | exact MAt.o (by assumption) | exact MAt.a1 (by assumption) | exact MAt.a2 (by assumption) | exact MAt.a3 (by assumption) | exact MAt.a4 (by assumption) | exact MAt.a5 (by assumption) | exact MAt.a6 (by assumption) | exact MAt.a7 (by assumption) | exact MAt.a8 (by assumption) | exact MAt.a9 (by assumption) | exact MAt.a10 (by assumption) | exact MAt.a11 (by assumption) | exact MAt.a12 (by assumption) | exact MAt.a13 (by assumption) | exact MAt.a14 (by assumption) | exact MAt.a15 (by assumption) | exact MAt.a16 (by assumption)) (by omega) (by first | rfl | exact bI_nar _) (by first | rfl | exact bI_fit _) dX8_wrong_15 ?_
    refine MAt.p6 (by assumption) (fun M hM => ?_)
    first | refine r_aload_n dX8_wrong_18 rfl ?_ | refine r_aload_nq dX8_wrong_18 rfl ?_ | refine r_aload_nN dX8_wrong_18 rfl ?_
    refine r_getf f_X8_64_7 (by first | exact MAt.o (by assumption) | exact MAt.a1 (by assumption) | exact MAt.a2 (by assumption) | exact MAt.a3 (by assumption) | exact MAt.a4 (by assumption) | exact MAt.a5 (by assumption) | exact MAt.a6 (by assumption) | exact MAt.a7 (by assumption) | exact MAt.a8 (by assumption) | exact MAt.a9 (by assumption) | exact MAt.a10 (by assumption) | exact MAt.a11 (by assumption) | exact MAt.a12 (by assumption) | exact MAt.a13 (by assumption) | exact MAt.a14 (by assumption) | exact MAt.a15 (by assumption) | exact MAt.a16 (by assumption)) (by rfl) dX8_wrong_19 ?_
    rw [fU_eq]
    first | refine r_if_le_n (tgt := 27) dX8_wrong_22 (by decide) (by omega) (fun h22 => by exfalso; omega) (fun h22 => ?_) | refine r_if_le (tgt := 27) dX8_wrong_22 (by decide) (fun h22 => by exfalso; omega) (fun h22 => ?_)
    refine r_iconst (v := nI 0) dX8_wrong_25 (by decide) ?_
    refine r_iret rfl (by first | rfl | exact bI_nar _) dX8_wrong_26 ?_
    exact hq _ (MX_iff.mpr ⟨_, _, hM, hP.f6 1, hR, rfl⟩)
  have h7 : inR w 0 2 = true := h7
  obtain ⟨w, _, hw, rfl⟩ := (inR_iff (lo := 0) (hi := 2) (by decide) (by decide)).mp h7
  simp only [h7, not_true_eq_false, if_false, nI_cl (show w < 2147483648 by omega)] at hq
  refine r_iconst (v := nI 0) dX8_wrong_10 (by decide) ?_
  refine r_goto (tgt := 15) dX8_wrong_11 (by decide) ?_
  refine r_putf f_X8_64_7 ft_7_6 (by first | exact MAt.o (by assumption) | exact MAt.a1 (by assumption) | exact MAt.a2 (by assumption) | exact MAt.a3 (by assumption) | exact MAt.a4 (by assumption) | exact MAt.a5 (by assumption) | exact MAt.a6 (by assumption) | exact MAt.a7 (by assumption) | exact MAt.a8 (by assumption) | exact MAt.a9 (by assumption) | exact MAt.a10 (by assumption) | exact MAt.a11 (by assumption) | exact MAt.a12 (by assumption) | exact MAt.a13 (by assumption) | exact MAt.a14 (by assumption) | exact MAt.a15 (by assumption) | exact MAt.a16 (by assumption)) (by omega) (by first | rfl | exact bI_nar _) (by first | rfl | exact bI_fit _) dX8_wrong_15 ?_
  refine MAt.p6 (by assumption) (fun M hM => ?_)
  first | refine r_aload_n dX8_wrong_18 rfl ?_ | refine r_aload_nq dX8_wrong_18 rfl ?_ | refine r_aload_nN dX8_wrong_18 rfl ?_
  refine r_getf f_X8_64_7 (by first | exact MAt.o (by assumption) | exact MAt.a1 (by assumption) | exact MAt.a2 (by assumption) | exact MAt.a3 (by assumption) | exact MAt.a4 (by assumption) | exact MAt.a5 (by assumption) | exact MAt.a6 (by assumption) | exact MAt.a7 (by assumption) | exact MAt.a8 (by assumption) | exact MAt.a9 (by assumption) | exact MAt.a10 (by assumption) | exact MAt.a11 (by assumption) | exact MAt.a12 (by assumption) | exact MAt.a13 (by assumption) | exact MAt.a14 (by assumption) | exact MAt.a15 (by assumption) | exact MAt.a16 (by assumption)) (by rfl) dX8_wrong_19 ?_
  rw [fU_eq]
  first | refine r_if_le_n (tgt := 27) dX8_wrong_22 (by decide) (by omega) (fun h22 => ?_) (fun h22 => by exfalso; omega) | refine r_if_le (tgt := 27) dX8_wrong_22 (by decide) (fun h22 => ?_) (fun h22 => by exfalso; omega)
  first | refine r_aload_n dX8_wrong_27 rfl ?_ | refine r_aload_nq dX8_wrong_27 rfl ?_ | refine r_aload_nN dX8_wrong_27 rfl ?_
  refine r_callV s_X8_229_v dX8_wrong_28 (by first | exact MAt.o (by assumption) | exact MAt.a1 (by assumption) | exact MAt.a2 (by assumption) | exact MAt.a3 (by assumption) | exact MAt.a4 (by assumption) | exact MAt.a5 (by assumption) | exact MAt.a6 (by assumption) | exact MAt.a7 (by assumption) | exact MAt.a8 (by assumption) | exact MAt.a9 (by assumption) | exact MAt.a10 (by assumption) | exact MAt.a11 (by assumption) | exact MAt.a12 (by assumption) | exact MAt.a13 (by assumption) | exact MAt.a14 (by assumption) | exact MAt.a15 (by assumption) | exact MAt.a16 (by assumption)) (by rfl) rfl (Nat.le_of_ble_eq_true rfl) (m_looks hM hb hP.1.1 hR (fun M F' A' hM hK g1 g2 g3 => ?_))
  refine mK_v ?_
  have hX : MX B M m X (F' 6) := MX.kp hM hP hR (MKp.t6.tr hK.k)
  rw [hK.1 6 (by omega), fU_eq] at hX
  obtain rfl | rfl | rfl : w = 0 ∨ w = 1 ∨ w = 2 := by omega
  · refine r_iload_n dX8_wrong_31 rfl ?_
    refine r_if_ne_n (tgt := 42) dX8_wrong_32 (by decide) (by omega) (fun h32 => by exfalso; omega) (fun h32 => ?_)
    first | refine r_aload_n dX8_wrong_35 rfl ?_ | refine r_aload_nq dX8_wrong_35 rfl ?_ | refine r_aload_nN dX8_wrong_35 rfl ?_
    refine r_getf f_X8_176_7 (by first | exact MAt.o (by assumption) | exact MAt.a1 (by assumption) | exact MAt.a2 (by assumption) | exact MAt.a3 (by assumption) | exact MAt.a4 (by assumption) | exact MAt.a5 (by assumption) | exact MAt.a6 (by assumption) | exact MAt.a7 (by assumption) | exact MAt.a8 (by assumption) | exact MAt.a9 (by assumption) | exact MAt.a10 (by assumption) | exact MAt.a11 (by assumption) | exact MAt.a12 (by assumption) | exact MAt.a13 (by assumption) | exact MAt.a14 (by assumption) | exact MAt.a15 (by assumption) | exact MAt.a16 (by assumption)) (by rfl) dX8_wrong_36 ?_
    refine r_goto (tgt := 58) dX8_wrong_39 (by decide) ?_
    refine r_iret rfl (by first | rfl | exact bI_nar _) dX8_wrong_58 ?_
    rw [g1]; exact hq _ hX
  · refine r_iload_n dX8_wrong_31 rfl ?_
    refine r_if_ne_n (tgt := 42) dX8_wrong_32 (by decide) (by omega) (fun h32 => ?_) (fun h32 => by exfalso; omega)
    refine r_iload_n dX8_wrong_42 rfl ?_
    refine r_iconst (v := nI 1) dX8_wrong_43 (by decide) ?_
    first | refine r_icmp_ne_n (tgt := 54) dX8_wrong_44 (by decide) (by omega) (by omega) (fun h44 => by exfalso; omega) (fun h44 => ?_) | refine r_icmp_ne_pn (tgt := 54) dX8_wrong_44 (by decide) (by omega) (by omega) (fun h44 => by exfalso; omega) (fun h44 => ?_) | refine r_icmp_ne_pm (tgt := 54) dX8_wrong_44 (by decide) (by omega) (fun h44 => by exfalso; omega) (fun h44 => ?_) | refine r_icmp_ne (tgt := 54) dX8_wrong_44 (by decide) (fun h44 => by exfalso; omega) (fun h44 => ?_)
    first | refine r_aload_n dX8_wrong_47 rfl ?_ | refine r_aload_nq dX8_wrong_47 rfl ?_ | refine r_aload_nN dX8_wrong_47 rfl ?_
    refine r_getf f_X8_179_7 (by first | exact MAt.o (by assumption) | exact MAt.a1 (by assumption) | exact MAt.a2 (by assumption) | exact MAt.a3 (by assumption) | exact MAt.a4 (by assumption) | exact MAt.a5 (by assumption) | exact MAt.a6 (by assumption) | exact MAt.a7 (by assumption) | exact MAt.a8 (by assumption) | exact MAt.a9 (by assumption) | exact MAt.a10 (by assumption) | exact MAt.a11 (by assumption) | exact MAt.a12 (by assumption) | exact MAt.a13 (by assumption) | exact MAt.a14 (by assumption) | exact MAt.a15 (by assumption) | exact MAt.a16 (by assumption)) (by rfl) dX8_wrong_48 ?_
    refine r_goto (tgt := 58) dX8_wrong_51 (by decide) ?_
    refine r_iret rfl (by first | rfl | exact bI_nar _) dX8_wrong_58 ?_
    rw [g2]; exact hq _ hX
  · refine r_iload_n dX8_wrong_31 rfl ?_
    refine r_if_ne_n (tgt := 42) dX8_wrong_32 (by decide) (by omega) (fun h32 => ?_) (fun h32 => by exfalso; omega)
    refine r_iload_n dX8_wrong_42 rfl ?_
    refine r_iconst (v := nI 1) dX8_wrong_43 (by decide) ?_
    first | refine r_icmp_ne_n (tgt := 54) dX8_wrong_44 (by decide) (by omega) (by omega) (fun h44 => ?_) (fun h44 => by exfalso; omega) | refine r_icmp_ne_pn (tgt := 54) dX8_wrong_44 (by decide) (by omega) (by omega) (fun h44 => ?_) (fun h44 => by exfalso; omega) | refine r_icmp_ne_pm (tgt := 54) dX8_wrong_44 (by decide) (by omega) (fun h44 => ?_) (fun h44 => by exfalso; omega) | refine r_icmp_ne (tgt := 54) dX8_wrong_44 (by decide) (fun h44 => ?_) (fun h44 => by exfalso; omega)
    first | refine r_aload_n dX8_wrong_54 rfl ?_ | refine r_aload_nq dX8_wrong_54 rfl ?_ | refine r_aload_nN dX8_wrong_54 rfl ?_
    refine r_getf f_X8_182_7 (by first | exact MAt.o (by assumption) | exact MAt.a1 (by assumption) | exact MAt.a2 (by assumption) | exact MAt.a3 (by assumption) | exact MAt.a4 (by assumption) | exact MAt.a5 (by assumption) | exact MAt.a6 (by assumption) | exact MAt.a7 (by assumption) | exact MAt.a8 (by assumption) | exact MAt.a9 (by assumption) | exact MAt.a10 (by assumption) | exact MAt.a11 (by assumption) | exact MAt.a12 (by assumption) | exact MAt.a13 (by assumption) | exact MAt.a14 (by assumption) | exact MAt.a15 (by assumption) | exact MAt.a16 (by assumption)) (by rfl) dX8_wrong_55 ?_
    refine r_iret rfl (by first | rfl | exact bI_nar _) dX8_wrong_58 ?_
    rw [g3]; exact hq _ hX
theorem m_isSound (h : MX B M m X th) (hb : mGb G ≤ m) (b : Bool) (hq : ∀ M, MX B M m X (spSound X).1 → Q (.inl (some (.int (bI (spSound X).2)))) M t u) : mMet G (d + 6) zX8_isSound [.ref m, .int (bI b)] M t u Q := by
  refine m_intro (by decide +kernel) ⟨Nat.le_of_ble_eq_true rfl, Nat.le_of_ble_eq_true rfl⟩ ?_
  show mW G _ _ 0 [some (.ref m), some (.int (bI b))] [] _ _ _ _
  obtain ⟨F, A, hM, hP, hR, h6⟩ := h.un
  unfold spSound at hq
  first | refine r_aload_n dX8_isSound_0 rfl ?_ | refine r_aload_nq dX8_isSound_0 rfl ?_ | refine r_aload_nN dX8_isSound_0 rfl ?_
  refine r_iconst (v := nI 0) dX8_isSound_1 (by decide) ?_
  refine r_putf f_X8_64_7 ft_7_6 (by first | exact MAt.o (by assumption) | exact MAt.a1 (by assumption) | exact MAt.a2 (by assumption) | exact MAt.a3 (by assumption) | exact MAt.a4 (by assumption) | exact MAt.a5 (by assumption) | exact MAt.a6 (by assumption) | exact MAt.a7 (by assumption) | exact MAt.a8 (by assumption) | exact MAt.a9 (by assumption) | exact MAt.a10 (by assumption) | exact MAt.a11 (by assumption) | exact MAt.a12 (by assumption) | exact MAt.a13 (by assumption) | exact MAt.a14 (by assumption) | exact MAt.a15 (by assumption) | exact MAt.a16 (by assumption)) (by omega) (by first | rfl | exact bI_nar _) (by first | rfl | exact bI_fit _) dX8_isSound_2 ?_
  refine MAt.p6 (by assumption) (fun M hM => ?_)
  first | refine r_aload_n dX8_isSound_5 rfl ?_ | refine r_aload_nq dX8_isSound_5 rfl ?_ | refine r_aload_nN dX8_isSound_5 rfl ?_
  refine r_callV s_X8_229_v dX8_isSound_6 (by first | exact MAt.o (by assumption) | exact MAt.a1 (by assumption) | exact MAt.a2 (by assumption) | exact MAt.a3 (by assumption) | exact MAt.a4 (by assumption) | exact MAt.a5 (by assumption) | exact MAt.a6 (by assumption) | exact MAt.a7 (by assumption) | exact MAt.a8 (by assumption) | exact MAt.a9 (by assumption) | exact MAt.a10 (by assumption) | exact MAt.a11 (by assumption) | exact MAt.a12 (by assumption) | exact MAt.a13 (by assumption) | exact MAt.a14 (by assumption) | exact MAt.a15 (by assumption) | exact MAt.a16 (by assumption)) (by rfl) rfl (Nat.le_of_ble_eq_true rfl) (m_looks hM hb hP.1.1 hR (fun M F' A' hM hK g1 g2 g3 => ?_))
  refine mK_v ?_
  first | refine r_aload_n dX8_isSound_9 rfl ?_ | refine r_aload_nq dX8_isSound_9 rfl ?_ | refine r_aload_nN dX8_isSound_9 rfl ?_
  refine r_getf f_X8_176_7 (by first | exact MAt.o (by assumption) | exact MAt.a1 (by assumption) | exact MAt.a2 (by assumption) | exact MAt.a3 (by assumption) | exact MAt.a4 (by assumption) | exact MAt.a5 (by assumption) | exact MAt.a6 (by assumption) | exact MAt.a7 (by assumption) | exact MAt.a8 (by assumption) | exact MAt.a9 (by assumption) | exact MAt.a10 (by assumption) | exact MAt.a11 (by assumption) | exact MAt.a12 (by assumption) | exact MAt.a13 (by assumption) | exact MAt.a14 (by assumption) | exact MAt.a15 (by assumption) | exact MAt.a16 (by assumption)) (by rfl) dX8_isSound_10 ?_
  have hX : MX B M m X (F' 6) := MX.kp hM hP hR (MKp.t6.tr hK.k)
  rw [hK.1 6 (by omega), fU_eq] at hX
  have hle : (zAll (xW X)).1 ≤ 8 := zFin_le _ _
  rw [g1]
  refine r_if_ne_n (tgt := 20) dX8_isSound_13 (by decide) (by omega) (fun h13 => ?_) (fun h13 => ?_)
  · refine r_iconst (v := nI 0) dX8_isSound_20 (by decide) ?_
    refine r_iret rfl (by first | rfl | exact bI_nar _) dX8_isSound_21 ?_
    rw [show decide ((zAll (xW X)).1 = 0) = false from decide_eq_false (by omega)] at hq
    exact hq _ hX
  · refine r_iconst (v := nI 1) dX8_isSound_16 (by decide) ?_
    refine r_goto (tgt := 21) dX8_isSound_17 (by decide) ?_
    refine r_iret rfl (by first | rfl | exact bI_nar _) dX8_isSound_21 ?_
    rw [show decide ((zAll (xW X)).1 = 0) = true from decide_eq_true h13] at hq
    exact hq _ hX
theorem m_goodAt (h : MX B M m X th) (hb : mGb G ≤ m) (g p : Int32) (hq : ∀ M, MX B M m X (spGoodAt X g p).1 → Q (.inl (some (.int (spGoodAt X g p).2))) M t u) : mMet G (d + 6) zX8_goodAt [.ref m, .int g, .int p] M t u Q := by
  refine m_intro (by decide +kernel) ⟨Nat.le_of_ble_eq_true rfl, Nat.le_of_ble_eq_true rfl⟩ ?_
  show mW G _ _ 0 [some (.ref m), some (.int g), some (.int p)] [] _ _ _ _
  obtain ⟨F, A, hM, hP, hR, h6⟩ := h.un
  obtain ⟨⟨e0, hm⟩, ⟨e1, hn⟩, ⟨e2, hcg⟩, e3, e4, e5⟩ := mR_up hP.1.1 hR
  unfold spGoodAt at hq
  first | refine r_aload_n dX8_goodAt_0 rfl ?_ | refine r_aload_nq dX8_goodAt_0 rfl ?_ | refine r_aload_nN dX8_goodAt_0 rfl ?_
  first | refine r_aload_n dX8_goodAt_1 rfl ?_ | refine r_aload_nq dX8_goodAt_1 rfl ?_ | refine r_aload_nN dX8_goodAt_1 rfl ?_
  refine r_iload_n dX8_goodAt_2 rfl ?_
  refine r_callV s_X8_100_v dX8_goodAt_3 (by first | exact MAt.o (by assumption) | exact MAt.a1 (by assumption) | exact MAt.a2 (by assumption) | exact MAt.a3 (by assumption) | exact MAt.a4 (by assumption) | exact MAt.a5 (by assumption) | exact MAt.a6 (by assumption) | exact MAt.a7 (by assumption) | exact MAt.a8 (by assumption) | exact MAt.a9 (by assumption) | exact MAt.a10 (by assumption) | exact MAt.a11 (by assumption) | exact MAt.a12 (by assumption) | exact MAt.a13 (by assumption) | exact MAt.a14 (by assumption) | exact MAt.a15 (by assumption) | exact MAt.a16 (by assumption)) (by rfl) rfl (Nat.le_of_ble_eq_true rfl) (m_isGood hM _ (nm_e ?_))
  refine mK_r ?_
  first | refine r_if_ne_b (tgt := 13) dX8_goodAt_6 (by decide) (fun h6 => ?_) (fun h6 => ?_) | refine r_if_ne_n (tgt := 13) dX8_goodAt_6 (by decide) (by omega) (fun h6 => ?_) (fun h6 => ?_) | refine r_if_ne (tgt := 13) dX8_goodAt_6 (by decide) (fun h6 => ?_) (fun h6 => ?_)
  rotate_left
  · rw [if_pos (by rw [← e0, h6]; decide)] at hq
    refine r_iconst (v := nI 1) dX8_goodAt_9 (by decide) ?_
    refine r_goto (tgt := 32) dX8_goodAt_10 (by decide) ?_
    refine r_putf f_X8_64_7 ft_7_6 (by first | exact MAt.o (by assumption) | exact MAt.a1 (by assumption) | exact MAt.a2 (by assumption) | exact MAt.a3 (by assumption) | exact MAt.a4 (by assumption) | exact MAt.a5 (by assumption) | exact MAt.a6 (by assumption) | exact MAt.a7 (by assumption) | exact MAt.a8 (by assumption) | exact MAt.a9 (by assumption) | exact MAt.a10 (by assumption) | exact MAt.a11 (by assumption) | exact MAt.a12 (by assumption) | exact MAt.a13 (by assumption) | exact MAt.a14 (by assumption) | exact MAt.a15 (by assumption) | exact MAt.a16 (by assumption)) (by omega) (by first | rfl | exact bI_nar _) (by first | rfl | exact bI_fit _) dX8_goodAt_32 ?_
    refine MAt.p6 (by assumption) (fun M hM => ?_)
    first | refine r_aload_n dX8_goodAt_35 rfl ?_ | refine r_aload_nq dX8_goodAt_35 rfl ?_ | refine r_aload_nN dX8_goodAt_35 rfl ?_
    refine r_getf f_X8_64_7 (by first | exact MAt.o (by assumption) | exact MAt.a1 (by assumption) | exact MAt.a2 (by assumption) | exact MAt.a3 (by assumption) | exact MAt.a4 (by assumption) | exact MAt.a5 (by assumption) | exact MAt.a6 (by assumption) | exact MAt.a7 (by assumption) | exact MAt.a8 (by assumption) | exact MAt.a9 (by assumption) | exact MAt.a10 (by assumption) | exact MAt.a11 (by assumption) | exact MAt.a12 (by assumption) | exact MAt.a13 (by assumption) | exact MAt.a14 (by assumption) | exact MAt.a15 (by assumption) | exact MAt.a16 (by assumption)) (by rfl) dX8_goodAt_36 ?_
    rw [fU_eq]
    first | refine r_if_le_n (tgt := 44) dX8_goodAt_39 (by decide) (by omega) (fun h39 => by exfalso; omega) (fun h39 => ?_) | refine r_if_le (tgt := 44) dX8_goodAt_39 (by decide) (fun h39 => by exfalso; omega) (fun h39 => ?_)
    refine r_iconst (v := nI 0) dX8_goodAt_42 (by decide) ?_
    refine r_iret rfl (by first | rfl | exact bI_nar _) dX8_goodAt_43 ?_
    exact hq _ (MX_iff.mpr ⟨_, _, hM, hP.f6 1, hR, rfl⟩)
  obtain ⟨i, hi, rfl⟩ := (inB_iff (by omega)).mp h6
  rw [e0] at h6 hi
  simp only [h6, not_true_eq_false, if_false, nI_cl (show i < 2147483648 by omega)] at hq
  refine r_iload_n dX8_goodAt_13 rfl ?_
  refine r_iconst (v := nI 0) dX8_goodAt_14 (by decide) ?_
  first | refine r_aload_n dX8_goodAt_15 rfl ?_ | refine r_aload_nq dX8_goodAt_15 rfl ?_ | refine r_aload_nN dX8_goodAt_15 rfl ?_
  refine r_getf f_X8_9_7 (by first | exact MAt.o (by assumption) | exact MAt.a1 (by assumption) | exact MAt.a2 (by assumption) | exact MAt.a3 (by assumption) | exact MAt.a4 (by assumption) | exact MAt.a5 (by assumption) | exact MAt.a6 (by assumption) | exact MAt.a7 (by assumption) | exact MAt.a8 (by assumption) | exact MAt.a9 (by assumption) | exact MAt.a10 (by assumption) | exact MAt.a11 (by assumption) | exact MAt.a12 (by assumption) | exact MAt.a13 (by assumption) | exact MAt.a14 (by assumption) | exact MAt.a15 (by assumption) | exact MAt.a16 (by assumption)) (by rfl) dX8_goodAt_16 ?_
  refine r_iconst (v := nI 1) dX8_goodAt_19 (by decide) ?_
  refine r_iald_n (by first | exact MAt.o (by assumption) | exact MAt.a1 (by assumption) | exact MAt.a2 (by assumption) | exact MAt.a3 (by assumption) | exact MAt.a4 (by assumption) | exact MAt.a5 (by assumption) | exact MAt.a6 (by assumption) | exact MAt.a7 (by assumption) | exact MAt.a8 (by assumption) | exact MAt.a9 (by assumption) | exact MAt.a10 (by assumption) | exact MAt.a11 (by assumption) | exact MAt.a12 (by assumption) | exact MAt.a13 (by assumption) | exact MAt.a14 (by assumption) | exact MAt.a15 (by assumption) | exact MAt.a16 (by assumption)) (by rfl) (by omega) (by omega) dX8_goodAt_20 ?_
  rw [e1]
  refine r_callS s_X8_82_s dX8_goodAt_21 (by rfl) rfl (Nat.le_of_ble_eq_true rfl) (m_in _ _ _ (nm_e ?_))
  refine mK_r ?_
  first | refine r_if_ne_b (tgt := 31) dX8_goodAt_24 (by decide) (fun h24 => ?_) (fun h24 => ?_) | refine r_if_ne_n (tgt := 31) dX8_goodAt_24 (by decide) (by omega) (fun h24 => ?_) (fun h24 => ?_) | refine r_if_ne (tgt := 31) dX8_goodAt_24 (by decide) (fun h24 => ?_) (fun h24 => ?_)
  rotate_left
  · rw [if_pos (by rw [show inR p 0 (wn (xW X)) = false from h24]; decide)] at hq
    refine r_iconst (v := nI 2) dX8_goodAt_27 (by decide) ?_
    refine r_goto (tgt := 32) dX8_goodAt_28 (by decide) ?_
    refine r_putf f_X8_64_7 ft_7_6 (by first | exact MAt.o (by assumption) | exact MAt.a1 (by assumption) | exact MAt.a2 (by assumption) | exact MAt.a3 (by assumption) | exact MAt.a4 (by assumption) | exact MAt.a5 (by assumption) | exact MAt.a6 (by assumption) | exact MAt.a7 (by assumption) | exact MAt.a8 (by assumption) | exact MAt.a9 (by assumption) | exact MAt.a10 (by assumption) | exact MAt.a11 (by assumption) | exact MAt.a12 (by assumption) | exact MAt.a13 (by assumption) | exact MAt.a14 (by assumption) | exact MAt.a15 (by assumption) | exact MAt.a16 (by assumption)) (by omega) (by first | rfl | exact bI_nar _) (by first | rfl | exact bI_fit _) dX8_goodAt_32 ?_
    refine MAt.p6 (by assumption) (fun M hM => ?_)
    first | refine r_aload_n dX8_goodAt_35 rfl ?_ | refine r_aload_nq dX8_goodAt_35 rfl ?_ | refine r_aload_nN dX8_goodAt_35 rfl ?_
    refine r_getf f_X8_64_7 (by first | exact MAt.o (by assumption) | exact MAt.a1 (by assumption) | exact MAt.a2 (by assumption) | exact MAt.a3 (by assumption) | exact MAt.a4 (by assumption) | exact MAt.a5 (by assumption) | exact MAt.a6 (by assumption) | exact MAt.a7 (by assumption) | exact MAt.a8 (by assumption) | exact MAt.a9 (by assumption) | exact MAt.a10 (by assumption) | exact MAt.a11 (by assumption) | exact MAt.a12 (by assumption) | exact MAt.a13 (by assumption) | exact MAt.a14 (by assumption) | exact MAt.a15 (by assumption) | exact MAt.a16 (by assumption)) (by rfl) dX8_goodAt_36 ?_
    rw [fU_eq]
    first | refine r_if_le_n (tgt := 44) dX8_goodAt_39 (by decide) (by omega) (fun h39 => by exfalso; omega) (fun h39 => ?_) | refine r_if_le (tgt := 44) dX8_goodAt_39 (by decide) (fun h39 => by exfalso; omega) (fun h39 => ?_)
    refine r_iconst (v := nI 0) dX8_goodAt_42 (by decide) ?_
    refine r_iret rfl (by first | rfl | exact bI_nar _) dX8_goodAt_43 ?_
    exact hq _ (MX_iff.mpr ⟨_, _, hM, hP.f6 2, hR, rfl⟩)
  have h24 : inR p 0 (wn (xW X)) = true := h24
  obtain ⟨p, _, hp, rfl⟩ := (inR_iff (by omega) (by omega)).mp h24
  simp only [h24, not_true_eq_false, if_false, nI_cl (show p < 2147483648 by omega)] at hq
  refine r_iconst (v := nI 0) dX8_goodAt_31 (by decide) ?_
  refine r_putf f_X8_64_7 ft_7_6 (by first | exact MAt.o (by assumption) | exact MAt.a1 (by assumption) | exact MAt.a2 (by assumption) | exact MAt.a3 (by assumption) | exact MAt.a4 (by assumption) | exact MAt.a5 (by assumption) | exact MAt.a6 (by assumption) | exact MAt.a7 (by assumption) | exact MAt.a8 (by assumption) | exact MAt.a9 (by assumption) | exact MAt.a10 (by assumption) | exact MAt.a11 (by assumption) | exact MAt.a12 (by assumption) | exact MAt.a13 (by assumption) | exact MAt.a14 (by assumption) | exact MAt.a15 (by assumption) | exact MAt.a16 (by assumption)) (by omega) (by first | rfl | exact bI_nar _) (by first | rfl | exact bI_fit _) dX8_goodAt_32 ?_
  refine MAt.p6 (by assumption) (fun M hM => ?_)
  first | refine r_aload_n dX8_goodAt_35 rfl ?_ | refine r_aload_nq dX8_goodAt_35 rfl ?_ | refine r_aload_nN dX8_goodAt_35 rfl ?_
  refine r_getf f_X8_64_7 (by first | exact MAt.o (by assumption) | exact MAt.a1 (by assumption) | exact MAt.a2 (by assumption) | exact MAt.a3 (by assumption) | exact MAt.a4 (by assumption) | exact MAt.a5 (by assumption) | exact MAt.a6 (by assumption) | exact MAt.a7 (by assumption) | exact MAt.a8 (by assumption) | exact MAt.a9 (by assumption) | exact MAt.a10 (by assumption) | exact MAt.a11 (by assumption) | exact MAt.a12 (by assumption) | exact MAt.a13 (by assumption) | exact MAt.a14 (by assumption) | exact MAt.a15 (by assumption) | exact MAt.a16 (by assumption)) (by rfl) dX8_goodAt_36 ?_
  rw [fU_eq]
  first | refine r_if_le_n (tgt := 44) dX8_goodAt_39 (by decide) (by omega) (fun h39 => ?_) (fun h39 => by exfalso; omega) | refine r_if_le (tgt := 44) dX8_goodAt_39 (by decide) (fun h39 => ?_) (fun h39 => by exfalso; omega)
  first | refine r_aload_n dX8_goodAt_44 rfl ?_ | refine r_aload_nq dX8_goodAt_44 rfl ?_ | refine r_aload_nN dX8_goodAt_44 rfl ?_
  refine r_iload_n dX8_goodAt_45 rfl ?_
  refine r_callV s_X8_223_v dX8_goodAt_46 (by first | exact MAt.o (by assumption) | exact MAt.a1 (by assumption) | exact MAt.a2 (by assumption) | exact MAt.a3 (by assumption) | exact MAt.a4 (by assumption) | exact MAt.a5 (by assumption) | exact MAt.a6 (by assumption) | exact MAt.a7 (by assumption) | exact MAt.a8 (by assumption) | exact MAt.a9 (by assumption) | exact MAt.a10 (by assumption) | exact MAt.a11 (by assumption) | exact MAt.a12 (by assumption) | exact MAt.a13 (by assumption) | exact MAt.a14 (by assumption) | exact MAt.a15 (by assumption) | exact MAt.a16 (by assumption)) (by rfl) rfl (Nat.le_of_ble_eq_true rfl) (m_goesTo hM hb hP.1.1 hR p hp (fun e he M F' A' hM hK g1 g2 g3 => ?_) (fun Z hZ M F' A' hM hK g1 g2 g3 hZM => ?_)) 
  skip
  · refine mK_r ?_
    have hX : MX B M m X (F' 6) := MX.kp hM hP hR (MKp.t6.tr hK.k)
    rw [hK.1 6 (by omega), fU_eq] at hX
    rw [he] at hq
    refine r_if_eq_b (tgt := 63) dX8_goodAt_49 (by decide) (fun h49 => ?_) (fun h49 => absurd h49 (by decide))
    refine r_iconst (v := -1) dX8_goodAt_63 (by decide) ?_
    refine r_iret rfl (by first | rfl | exact bI_nar _) dX8_goodAt_64 ?_
    exact hq _ hX
  · refine mK_r ?_
    have hX : MX B M m X (F' 6) := MX.kp hM hP hR (MKp.t6.tr hK.k)
    rw [hK.1 6 (by omega), fU_eq] at hX
    rw [hZ] at hq
    refine r_if_eq_b (tgt := 63) dX8_goodAt_49 (by decide) (fun h49 => absurd h49 (by decide)) (fun h49 => ?_)
    first | refine r_aload_n dX8_goodAt_52 rfl ?_ | refine r_aload_nq dX8_goodAt_52 rfl ?_ | refine r_aload_nN dX8_goodAt_52 rfl ?_
    refine r_getf f_X8_37_7 (by first | exact MAt.o (by assumption) | exact MAt.a1 (by assumption) | exact MAt.a2 (by assumption) | exact MAt.a3 (by assumption) | exact MAt.a4 (by assumption) | exact MAt.a5 (by assumption) | exact MAt.a6 (by assumption) | exact MAt.a7 (by assumption) | exact MAt.a8 (by assumption) | exact MAt.a9 (by assumption) | exact MAt.a10 (by assumption) | exact MAt.a11 (by assumption) | exact MAt.a12 (by assumption) | exact MAt.a13 (by assumption) | exact MAt.a14 (by assumption) | exact MAt.a15 (by assumption) | exact MAt.a16 (by assumption)) (by rfl) dX8_goodAt_53 ?_
    refine r_iconst (v := nI 0) dX8_goodAt_56 (by decide) ?_
    refine r_iload_n dX8_goodAt_57 rfl ?_
    first | refine r_iadd_n dX8_goodAt_58 ?_ | refine r_iadd dX8_goodAt_58 ?_
    rw [Nat.zero_add i]
    refine r_iald_n (by first | exact MAt.o (by assumption) | exact MAt.a1 (by assumption) | exact MAt.a2 (by assumption) | exact MAt.a3 (by assumption) | exact MAt.a4 (by assumption) | exact MAt.a5 (by assumption) | exact MAt.a6 (by assumption) | exact MAt.a7 (by assumption) | exact MAt.a8 (by assumption) | exact MAt.a9 (by assumption) | exact MAt.a10 (by assumption) | exact MAt.a11 (by assumption) | exact MAt.a12 (by assumption) | exact MAt.a13 (by assumption) | exact MAt.a14 (by assumption) | exact MAt.a15 (by assumption) | exact MAt.a16 (by assumption)) (by rfl) (by omega) (by omega) dX8_goodAt_59 ?_
    rw [sE_n (by omega), hZM.2.1 i (by omega)]
    refine r_goto (tgt := 64) dX8_goodAt_60 (by decide) ?_
    refine r_iret rfl (by first | rfl | exact bI_nar _) dX8_goodAt_64 ?_
    exact hq _ hX
theorem m_ploughAt (h : MX B M m X th) (hb : mGb G ≤ m) (g p : Int32) (hq : ∀ M, MX B M m X (spPloughAt X g p).1 → Q (.inl (some (.int (spPloughAt X g p).2))) M t u) : mMet G (d + 6) zX8_ploughAt [.ref m, .int g, .int p] M t u Q := by
  refine m_intro (by decide +kernel) ⟨Nat.le_of_ble_eq_true rfl, Nat.le_of_ble_eq_true rfl⟩ ?_
  show mW G _ _ 0 [some (.ref m), some (.int g), some (.int p)] [] _ _ _ _
  obtain ⟨F, A, hM, hP, hR, h6⟩ := h.un
  obtain ⟨⟨e0, hm⟩, ⟨e1, hn⟩, ⟨e2, hcg⟩, e3, e4, e5⟩ := mR_up hP.1.1 hR
  unfold spPloughAt at hq
  first | refine r_aload_n dX8_ploughAt_0 rfl ?_ | refine r_aload_nq dX8_ploughAt_0 rfl ?_ | refine r_aload_nN dX8_ploughAt_0 rfl ?_
  refine r_iload_n dX8_ploughAt_1 rfl ?_
  refine r_iconst (v := nI 0) dX8_ploughAt_2 (by decide) ?_
  refine r_iconst (v := nI 4) dX8_ploughAt_3 (by decide) ?_
  refine r_callS s_X8_82_s dX8_ploughAt_4 (by rfl) rfl (Nat.le_of_ble_eq_true rfl) (m_in _ _ _ (nm_e ?_))
  refine mK_r ?_
  first | refine r_if_ne_b (tgt := 14) dX8_ploughAt_7 (by decide) (fun h7 => ?_) (fun h7 => ?_) | refine r_if_ne_n (tgt := 14) dX8_ploughAt_7 (by decide) (by omega) (fun h7 => ?_) (fun h7 => ?_) | refine r_if_ne (tgt := 14) dX8_ploughAt_7 (by decide) (fun h7 => ?_) (fun h7 => ?_)
  rotate_left
  · rw [if_pos (by rw [show inR g 0 4 = false from h7]; decide)] at hq
    refine r_iconst (v := nI 1) dX8_ploughAt_10 (by decide) ?_
    refine r_goto (tgt := 33) dX8_ploughAt_11 (by decide) ?_
    refine r_putf f_X8_64_7 ft_7_6 (by first | exact MAt.o (by assumption) | exact MAt.a1 (by assumption) | exact MAt.a2 (by assumption) | exact MAt.a3 (by assumption) | exact MAt.a4 (by assumption) | exact MAt.a5 (by assumption) | exact MAt.a6 (by assumption) | exact MAt.a7 (by assumption) | exact MAt.a8 (by assumption) | exact MAt.a9 (by assumption) | exact MAt.a10 (by assumption) | exact MAt.a11 (by assumption) | exact MAt.a12 (by assumption) | exact MAt.a13 (by assumption) | exact MAt.a14 (by assumption) | exact MAt.a15 (by assumption) | exact MAt.a16 (by assumption)) (by omega) (by first | rfl | exact bI_nar _) (by first | rfl | exact bI_fit _) dX8_ploughAt_33 ?_
    refine MAt.p6 (by assumption) (fun M hM => ?_)
    first | refine r_aload_n dX8_ploughAt_36 rfl ?_ | refine r_aload_nq dX8_ploughAt_36 rfl ?_ | refine r_aload_nN dX8_ploughAt_36 rfl ?_
    refine r_getf f_X8_64_7 (by first | exact MAt.o (by assumption) | exact MAt.a1 (by assumption) | exact MAt.a2 (by assumption) | exact MAt.a3 (by assumption) | exact MAt.a4 (by assumption) | exact MAt.a5 (by assumption) | exact MAt.a6 (by assumption) | exact MAt.a7 (by assumption) | exact MAt.a8 (by assumption) | exact MAt.a9 (by assumption) | exact MAt.a10 (by assumption) | exact MAt.a11 (by assumption) | exact MAt.a12 (by assumption) | exact MAt.a13 (by assumption) | exact MAt.a14 (by assumption) | exact MAt.a15 (by assumption) | exact MAt.a16 (by assumption)) (by rfl) dX8_ploughAt_37 ?_
    rw [fU_eq]
    first | refine r_if_le_n (tgt := 45) dX8_ploughAt_40 (by decide) (by omega) (fun h40 => by exfalso; omega) (fun h40 => ?_) | refine r_if_le (tgt := 45) dX8_ploughAt_40 (by decide) (fun h40 => by exfalso; omega) (fun h40 => ?_)
    refine r_iconst (v := nI 0) dX8_ploughAt_43 (by decide) ?_
    refine r_iret rfl (by first | rfl | exact bI_nar _) dX8_ploughAt_44 ?_
    exact hq _ (MX_iff.mpr ⟨_, _, hM, hP.f6 1, hR, rfl⟩)
  have h7 : inR g 0 4 = true := h7
  obtain ⟨i, _, hi, rfl⟩ := (inR_iff (lo := 0) (hi := 4) (by decide) (by decide)).mp h7
  simp only [h7, not_true_eq_false, if_false, nI_cl (show i < 2147483648 by omega)] at hq
  refine r_iload_n dX8_ploughAt_14 rfl ?_
  refine r_iconst (v := nI 0) dX8_ploughAt_15 (by decide) ?_
  first | refine r_aload_n dX8_ploughAt_16 rfl ?_ | refine r_aload_nq dX8_ploughAt_16 rfl ?_ | refine r_aload_nN dX8_ploughAt_16 rfl ?_
  refine r_getf f_X8_9_7 (by first | exact MAt.o (by assumption) | exact MAt.a1 (by assumption) | exact MAt.a2 (by assumption) | exact MAt.a3 (by assumption) | exact MAt.a4 (by assumption) | exact MAt.a5 (by assumption) | exact MAt.a6 (by assumption) | exact MAt.a7 (by assumption) | exact MAt.a8 (by assumption) | exact MAt.a9 (by assumption) | exact MAt.a10 (by assumption) | exact MAt.a11 (by assumption) | exact MAt.a12 (by assumption) | exact MAt.a13 (by assumption) | exact MAt.a14 (by assumption) | exact MAt.a15 (by assumption) | exact MAt.a16 (by assumption)) (by rfl) dX8_ploughAt_17 ?_
  refine r_iconst (v := nI 1) dX8_ploughAt_20 (by decide) ?_
  refine r_iald_n (by first | exact MAt.o (by assumption) | exact MAt.a1 (by assumption) | exact MAt.a2 (by assumption) | exact MAt.a3 (by assumption) | exact MAt.a4 (by assumption) | exact MAt.a5 (by assumption) | exact MAt.a6 (by assumption) | exact MAt.a7 (by assumption) | exact MAt.a8 (by assumption) | exact MAt.a9 (by assumption) | exact MAt.a10 (by assumption) | exact MAt.a11 (by assumption) | exact MAt.a12 (by assumption) | exact MAt.a13 (by assumption) | exact MAt.a14 (by assumption) | exact MAt.a15 (by assumption) | exact MAt.a16 (by assumption)) (by rfl) (by omega) (by omega) dX8_ploughAt_21 ?_
  rw [e1]
  refine r_callS s_X8_82_s dX8_ploughAt_22 (by rfl) rfl (Nat.le_of_ble_eq_true rfl) (m_in _ _ _ (nm_e ?_))
  refine mK_r ?_
  first | refine r_if_ne_b (tgt := 32) dX8_ploughAt_25 (by decide) (fun h25 => ?_) (fun h25 => ?_) | refine r_if_ne_n (tgt := 32) dX8_ploughAt_25 (by decide) (by omega) (fun h25 => ?_) (fun h25 => ?_) | refine r_if_ne (tgt := 32) dX8_ploughAt_25 (by decide) (fun h25 => ?_) (fun h25 => ?_)
  rotate_left
  · rw [if_pos (by rw [show inR p 0 (wn (xW X)) = false from h25]; decide)] at hq
    refine r_iconst (v := nI 2) dX8_ploughAt_28 (by decide) ?_
    refine r_goto (tgt := 33) dX8_ploughAt_29 (by decide) ?_
    refine r_putf f_X8_64_7 ft_7_6 (by first | exact MAt.o (by assumption) | exact MAt.a1 (by assumption) | exact MAt.a2 (by assumption) | exact MAt.a3 (by assumption) | exact MAt.a4 (by assumption) | exact MAt.a5 (by assumption) | exact MAt.a6 (by assumption) | exact MAt.a7 (by assumption) | exact MAt.a8 (by assumption) | exact MAt.a9 (by assumption) | exact MAt.a10 (by assumption) | exact MAt.a11 (by assumption) | exact MAt.a12 (by assumption) | exact MAt.a13 (by assumption) | exact MAt.a14 (by assumption) | exact MAt.a15 (by assumption) | exact MAt.a16 (by assumption)) (by omega) (by first | rfl | exact bI_nar _) (by first | rfl | exact bI_fit _) dX8_ploughAt_33 ?_
    refine MAt.p6 (by assumption) (fun M hM => ?_)
    first | refine r_aload_n dX8_ploughAt_36 rfl ?_ | refine r_aload_nq dX8_ploughAt_36 rfl ?_ | refine r_aload_nN dX8_ploughAt_36 rfl ?_
    refine r_getf f_X8_64_7 (by first | exact MAt.o (by assumption) | exact MAt.a1 (by assumption) | exact MAt.a2 (by assumption) | exact MAt.a3 (by assumption) | exact MAt.a4 (by assumption) | exact MAt.a5 (by assumption) | exact MAt.a6 (by assumption) | exact MAt.a7 (by assumption) | exact MAt.a8 (by assumption) | exact MAt.a9 (by assumption) | exact MAt.a10 (by assumption) | exact MAt.a11 (by assumption) | exact MAt.a12 (by assumption) | exact MAt.a13 (by assumption) | exact MAt.a14 (by assumption) | exact MAt.a15 (by assumption) | exact MAt.a16 (by assumption)) (by rfl) dX8_ploughAt_37 ?_
    rw [fU_eq]
    first | refine r_if_le_n (tgt := 45) dX8_ploughAt_40 (by decide) (by omega) (fun h40 => by exfalso; omega) (fun h40 => ?_) | refine r_if_le (tgt := 45) dX8_ploughAt_40 (by decide) (fun h40 => by exfalso; omega) (fun h40 => ?_)
    refine r_iconst (v := nI 0) dX8_ploughAt_43 (by decide) ?_
    refine r_iret rfl (by first | rfl | exact bI_nar _) dX8_ploughAt_44 ?_
    exact hq _ (MX_iff.mpr ⟨_, _, hM, hP.f6 2, hR, rfl⟩)
  have h25 : inR p 0 (wn (xW X)) = true := h25
  obtain ⟨p, _, hp, rfl⟩ := (inR_iff (by omega) (by omega)).mp h25
  simp only [h25, not_true_eq_false, if_false, nI_cl (show p < 2147483648 by omega)] at hq
  refine r_iconst (v := nI 0) dX8_ploughAt_32 (by decide) ?_
  refine r_putf f_X8_64_7 ft_7_6 (by first | exact MAt.o (by assumption) | exact MAt.a1 (by assumption) | exact MAt.a2 (by assumption) | exact MAt.a3 (by assumption) | exact MAt.a4 (by assumption) | exact MAt.a5 (by assumption) | exact MAt.a6 (by assumption) | exact MAt.a7 (by assumption) | exact MAt.a8 (by assumption) | exact MAt.a9 (by assumption) | exact MAt.a10 (by assumption) | exact MAt.a11 (by assumption) | exact MAt.a12 (by assumption) | exact MAt.a13 (by assumption) | exact MAt.a14 (by assumption) | exact MAt.a15 (by assumption) | exact MAt.a16 (by assumption)) (by omega) (by first | rfl | exact bI_nar _) (by first | rfl | exact bI_fit _) dX8_ploughAt_33 ?_
  refine MAt.p6 (by assumption) (fun M hM => ?_)
  first | refine r_aload_n dX8_ploughAt_36 rfl ?_ | refine r_aload_nq dX8_ploughAt_36 rfl ?_ | refine r_aload_nN dX8_ploughAt_36 rfl ?_
  refine r_getf f_X8_64_7 (by first | exact MAt.o (by assumption) | exact MAt.a1 (by assumption) | exact MAt.a2 (by assumption) | exact MAt.a3 (by assumption) | exact MAt.a4 (by assumption) | exact MAt.a5 (by assumption) | exact MAt.a6 (by assumption) | exact MAt.a7 (by assumption) | exact MAt.a8 (by assumption) | exact MAt.a9 (by assumption) | exact MAt.a10 (by assumption) | exact MAt.a11 (by assumption) | exact MAt.a12 (by assumption) | exact MAt.a13 (by assumption) | exact MAt.a14 (by assumption) | exact MAt.a15 (by assumption) | exact MAt.a16 (by assumption)) (by rfl) dX8_ploughAt_37 ?_
  rw [fU_eq]
  first | refine r_if_le_n (tgt := 45) dX8_ploughAt_40 (by decide) (by omega) (fun h40 => ?_) (fun h40 => by exfalso; omega) | refine r_if_le (tgt := 45) dX8_ploughAt_40 (by decide) (fun h40 => ?_) (fun h40 => by exfalso; omega)
  first | refine r_aload_n dX8_ploughAt_45 rfl ?_ | refine r_aload_nq dX8_ploughAt_45 rfl ?_ | refine r_aload_nN dX8_ploughAt_45 rfl ?_
  refine r_iload_n dX8_ploughAt_46 rfl ?_
  refine r_callV s_X8_223_v dX8_ploughAt_47 (by first | exact MAt.o (by assumption) | exact MAt.a1 (by assumption) | exact MAt.a2 (by assumption) | exact MAt.a3 (by assumption) | exact MAt.a4 (by assumption) | exact MAt.a5 (by assumption) | exact MAt.a6 (by assumption) | exact MAt.a7 (by assumption) | exact MAt.a8 (by assumption) | exact MAt.a9 (by assumption) | exact MAt.a10 (by assumption) | exact MAt.a11 (by assumption) | exact MAt.a12 (by assumption) | exact MAt.a13 (by assumption) | exact MAt.a14 (by assumption) | exact MAt.a15 (by assumption) | exact MAt.a16 (by assumption)) (by rfl) rfl (Nat.le_of_ble_eq_true rfl) (m_goesTo hM hb hP.1.1 hR p hp (fun e he M F' A' hM hK g1 g2 g3 => ?_) (fun Z hZ M F' A' hM hK g1 g2 g3 hZM => ?_)) 
  skip
  · refine mK_r ?_
    have hX : MX B M m X (F' 6) := MX.kp hM hP hR (MKp.t6.tr hK.k)
    rw [hK.1 6 (by omega), fU_eq] at hX
    rw [he] at hq
    refine r_if_eq_b (tgt := 65) dX8_ploughAt_50 (by decide) (fun h50 => ?_) (fun h50 => absurd h50 (by decide))
    refine r_bipush (v := -2) dX8_ploughAt_65 (by decide) ?_
    refine r_iret rfl (by first | rfl | exact bI_nar _) dX8_ploughAt_67 ?_
    exact hq _ hX
  · refine mK_r ?_
    have hX : MX B M m X (F' 6) := MX.kp hM hP hR (MKp.t6.tr hK.k)
    rw [hK.1 6 (by omega), fU_eq] at hX
    rw [hZ] at hq
    refine r_if_eq_b (tgt := 65) dX8_ploughAt_50 (by decide) (fun h50 => absurd h50 (by decide)) (fun h50 => ?_)
    first | refine r_aload_n dX8_ploughAt_53 rfl ?_ | refine r_aload_nq dX8_ploughAt_53 rfl ?_ | refine r_aload_nN dX8_ploughAt_53 rfl ?_
    refine r_getf f_X8_37_7 (by first | exact MAt.o (by assumption) | exact MAt.a1 (by assumption) | exact MAt.a2 (by assumption) | exact MAt.a3 (by assumption) | exact MAt.a4 (by assumption) | exact MAt.a5 (by assumption) | exact MAt.a6 (by assumption) | exact MAt.a7 (by assumption) | exact MAt.a8 (by assumption) | exact MAt.a9 (by assumption) | exact MAt.a10 (by assumption) | exact MAt.a11 (by assumption) | exact MAt.a12 (by assumption) | exact MAt.a13 (by assumption) | exact MAt.a14 (by assumption) | exact MAt.a15 (by assumption) | exact MAt.a16 (by assumption)) (by rfl) dX8_ploughAt_54 ?_
    refine r_bipush (v := nI 16) dX8_ploughAt_57 (by decide) ?_
    refine r_iload_n dX8_ploughAt_59 rfl ?_
    first | refine r_iadd_n dX8_ploughAt_60 ?_ | refine r_iadd dX8_ploughAt_60 ?_
    refine r_iald_n (by first | exact MAt.o (by assumption) | exact MAt.a1 (by assumption) | exact MAt.a2 (by assumption) | exact MAt.a3 (by assumption) | exact MAt.a4 (by assumption) | exact MAt.a5 (by assumption) | exact MAt.a6 (by assumption) | exact MAt.a7 (by assumption) | exact MAt.a8 (by assumption) | exact MAt.a9 (by assumption) | exact MAt.a10 (by assumption) | exact MAt.a11 (by assumption) | exact MAt.a12 (by assumption) | exact MAt.a13 (by assumption) | exact MAt.a14 (by assumption) | exact MAt.a15 (by assumption) | exact MAt.a16 (by assumption)) (by rfl) (by omega) (by omega) dX8_ploughAt_61 ?_
    rw [sE_p (by omega), hZM.2.1 (16 + i) (by omega)]
    refine r_goto (tgt := 67) dX8_ploughAt_62 (by decide) ?_
    refine r_iret rfl (by first | rfl | exact bI_nar _) dX8_ploughAt_67 ?_
    exact hq _ hX
theorem m_looksOn (h : MAt B M m F D A) (hb : mGb G ≤ m) {W : WT} (hw : wOk W) (hR : mR W (A 1)) (on : Nat → Bool) (ho : ∀ k, k < 24 → A 13 k = if on k = true then 1 else 0)
   (hq : ∀ M F' A', MAt B M m F' D A' → WKp F F' A A' → F' 19 = (zFin W (zRun W true on (wn W))).1 → F' 20 = (zFin W (zRun W true on (wn W))).2.1 → F' 21 = (zFin W (zRun W true on (wn W))).2.2 → Q (.inl none) M t u) : mMet G (d + 5) zX8_looksOn [.ref m] M t u Q := by
  refine m_intro (by decide +kernel) ⟨Nat.le_of_ble_eq_true rfl, Nat.le_of_ble_eq_true rfl⟩ ?_
  show mW G _ _ 0 [some (.ref m), none, none] [] _ _ _ _
  have hn : wn W ≤ 24 := hw.2.1
  have e1 : A 1 1 = wn W := hR.2.1
  have loop : ∀ n k M F' A' Z, k + n = wn W → MAt B M m F' D A' → WKp F F' A A' → F' 19 = 0 → F' 20 = 0 → F' 21 = 0 → ZM F' A' true k Z → zRun W true on k = .inr Z → mW G zX8_looksOn (d + 5) 8 [some (.ref m), some (.int (bI true)), some (.int (nI k))] [] M t u Q := by
    intro n
    induction n with
    | zero =>
      intro k M F' A' Z hk hM hK f1 f2 f3 hZ hr
      have hk : k = wn W := by omega
      subst hk
      have a1 : A' 1 = A 1 := hK.2 1 (by decide) (by decide) (by decide) (by decide)
      have a11 : A' 1 1 = wn W := by rw [a1]; exact e1
      refine r_iload_n dX8_looksOn_8 rfl ?_
      first | refine r_aload_n dX8_looksOn_9 rfl ?_ | refine r_aload_nq dX8_looksOn_9 rfl ?_ | refine r_aload_nN dX8_looksOn_9 rfl ?_
      refine r_getf f_X8_9_7 (by first | exact MAt.o (by assumption) | exact MAt.a1 (by assumption) | exact MAt.a2 (by assumption) | exact MAt.a3 (by assumption) | exact MAt.a4 (by assumption) | exact MAt.a5 (by assumption) | exact MAt.a6 (by assumption) | exact MAt.a7 (by assumption) | exact MAt.a8 (by assumption) | exact MAt.a9 (by assumption) | exact MAt.a10 (by assumption) | exact MAt.a11 (by assumption) | exact MAt.a12 (by assumption) | exact MAt.a13 (by assumption) | exact MAt.a14 (by assumption) | exact MAt.a15 (by assumption) | exact MAt.a16 (by assumption)) (by rfl) dX8_looksOn_10 ?_
      refine r_iconst (v := nI 1) dX8_looksOn_13 (by decide) ?_
      refine r_iald_n (by first | exact MAt.o (by assumption) | exact MAt.a1 (by assumption) | exact MAt.a2 (by assumption) | exact MAt.a3 (by assumption) | exact MAt.a4 (by assumption) | exact MAt.a5 (by assumption) | exact MAt.a6 (by assumption) | exact MAt.a7 (by assumption) | exact MAt.a8 (by assumption) | exact MAt.a9 (by assumption) | exact MAt.a10 (by assumption) | exact MAt.a11 (by assumption) | exact MAt.a12 (by assumption) | exact MAt.a13 (by assumption) | exact MAt.a14 (by assumption) | exact MAt.a15 (by assumption) | exact MAt.a16 (by assumption)) (by rfl) (by omega) (by omega) dX8_looksOn_14 ?_
      first | refine r_icmp_ge_n (tgt := 52) dX8_looksOn_15 (by decide) (by omega) (by omega) (fun h15 => ?_) (fun h15 => by exfalso; omega) | refine r_icmp_ge (tgt := 52) dX8_looksOn_15 (by decide) (fun h15 => ?_) (fun h15 => by exfalso; omega)
      refine r_iload_n dX8_looksOn_52 rfl ?_
      refine r_if_eq_b (tgt := 60) dX8_looksOn_53 (by decide) (fun h53 => absurd h53 (by decide)) (fun h53 => ?_)
      first | refine r_aload_n dX8_looksOn_56 rfl ?_ | refine r_aload_nq dX8_looksOn_56 rfl ?_ | refine r_aload_nN dX8_looksOn_56 rfl ?_
      refine r_callV s_X8_226_v dX8_looksOn_57 (by first | exact MAt.o (by assumption) | exact MAt.a1 (by assumption) | exact MAt.a2 (by assumption) | exact MAt.a3 (by assumption) | exact MAt.a4 (by assumption) | exact MAt.a5 (by assumption) | exact MAt.a6 (by assumption) | exact MAt.a7 (by assumption) | exact MAt.a8 (by assumption) | exact MAt.a9 (by assumption) | exact MAt.a10 (by assumption) | exact MAt.a11 (by assumption) | exact MAt.a12 (by assumption) | exact MAt.a13 (by assumption) | exact MAt.a14 (by assumption) | exact MAt.a15 (by assumption) | exact MAt.a16 (by assumption)) (by rfl) rfl (Nat.le_of_ble_eq_true rfl) (m_finishes hM hb hw (by rw [a1]; exact hR) hZ f1 f2 f3 (fun M F'' A'' hM hK' k1 k2 k3 => ?_))
      refine mK_v ?_
      refine r_vret rfl dX8_looksOn_60 ?_
      rw [hr] at hq
      exact hq _ _ _ hM (hK.tr hK') k1 k2 k3
    | succ n ih =>
      intro k M F' A' Z hk hM hK f1 f2 f3 hZ hr
      have a1 : A' 1 = A 1 := hK.2 1 (by decide) (by decide) (by decide) (by decide)
      have a11 : A' 1 1 = wn W := by rw [a1]; exact e1
      have a13 : A' 13 k = if on k = true then 1 else 0 := by rw [hK.2 13 (by decide) (by decide) (by decide) (by decide)]; exact ho k (by omega)
      have hR' : mR W (A' 1) := by rw [a1]; exact hR
      have hs : ∀ r, (if on k = true then zStep W true k Z else .inr Z) = r → zRun W true on (k + 1) = r := fun r hx => by
        show (match zRun W true on k with | .inl e => _ | .inr Z => _) = _
        rw [hr]; exact hx
      cases hon : on k with
      | false =>
        rw [hon] at a13
        have a13 : A' 13 k = 0 := a13
        refine r_iload_n dX8_looksOn_8 rfl ?_
        first | refine r_aload_n dX8_looksOn_9 rfl ?_ | refine r_aload_nq dX8_looksOn_9 rfl ?_ | refine r_aload_nN dX8_looksOn_9 rfl ?_
        refine r_getf f_X8_9_7 (by first | exact MAt.o (by assumption) | exact MAt.a1 (by assumption) | exact MAt.a2 (by assumption) | exact MAt.a3 (by assumption) | exact MAt.a4 (by assumption) | exact MAt.a5 (by assumption) | exact MAt.a6 (by assumption) | exact MAt.a7 (by assumption) | exact MAt.a8 (by assumption) | exact MAt.a9 (by assumption) | exact MAt.a10 (by assumption) | exact MAt.a11 (by assumption) | exact MAt.a12 (by assumption) | exact MAt.a13 (by assumption) | exact MAt.a14 (by assumption) | exact MAt.a15 (by assumption) | exact MAt.a16 (by assumption)) (by rfl) dX8_looksOn_10 ?_
        refine r_iconst (v := nI 1) dX8_looksOn_13 (by decide) ?_
        refine r_iald_n (by first | exact MAt.o (by assumption) | exact MAt.a1 (by assumption) | exact MAt.a2 (by assumption) | exact MAt.a3 (by assumption) | exact MAt.a4 (by assumption) | exact MAt.a5 (by assumption) | exact MAt.a6 (by assumption) | exact MAt.a7 (by assumption) | exact MAt.a8 (by assumption) | exact MAt.a9 (by assumption) | exact MAt.a10 (by assumption) | exact MAt.a11 (by assumption) | exact MAt.a12 (by assumption) | exact MAt.a13 (by assumption) | exact MAt.a14 (by assumption) | exact MAt.a15 (by assumption) | exact MAt.a16 (by assumption)) (by rfl) (by omega) (by omega) dX8_looksOn_14 ?_
        first | refine r_icmp_ge_n (tgt := 52) dX8_looksOn_15 (by decide) (by omega) (by omega) (fun h15 => by exfalso; omega) (fun h15 => ?_) | refine r_icmp_ge (tgt := 52) dX8_looksOn_15 (by decide) (fun h15 => by exfalso; omega) (fun h15 => ?_)
        refine r_iload_n dX8_looksOn_18 rfl ?_
        refine r_if_eq_b (tgt := 52) dX8_looksOn_19 (by decide) (fun h19 => absurd h19 (by decide)) (fun h19 => ?_)
        first | refine r_aload_n dX8_looksOn_22 rfl ?_ | refine r_aload_nq dX8_looksOn_22 rfl ?_ | refine r_aload_nN dX8_looksOn_22 rfl ?_
        refine r_getf f_X8_46_7 (by first | exact MAt.o (by assumption) | exact MAt.a1 (by assumption) | exact MAt.a2 (by assumption) | exact MAt.a3 (by assumption) | exact MAt.a4 (by assumption) | exact MAt.a5 (by assumption) | exact MAt.a6 (by assumption) | exact MAt.a7 (by assumption) | exact MAt.a8 (by assumption) | exact MAt.a9 (by assumption) | exact MAt.a10 (by assumption) | exact MAt.a11 (by assumption) | exact MAt.a12 (by assumption) | exact MAt.a13 (by assumption) | exact MAt.a14 (by assumption) | exact MAt.a15 (by assumption) | exact MAt.a16 (by assumption)) (by rfl) dX8_looksOn_23 ?_
        refine r_iload_n dX8_looksOn_26 rfl ?_
        first | refine r_zald_n (by first | exact MAt.o (by assumption) | exact MAt.a1 (by assumption) | exact MAt.a2 (by assumption) | exact MAt.a3 (by assumption) | exact MAt.a4 (by assumption) | exact MAt.a5 (by assumption) | exact MAt.a6 (by assumption) | exact MAt.a7 (by assumption) | exact MAt.a8 (by assumption) | exact MAt.a9 (by assumption) | exact MAt.a10 (by assumption) | exact MAt.a11 (by assumption) | exact MAt.a12 (by assumption) | exact MAt.a13 (by assumption) | exact MAt.a14 (by assumption) | exact MAt.a15 (by assumption) | exact MAt.a16 (by assumption)) (by rfl) (by omega) (by omega) dX8_looksOn_27 ?_ | refine r_bald_n (by first | exact MAt.o (by assumption) | exact MAt.a1 (by assumption) | exact MAt.a2 (by assumption) | exact MAt.a3 (by assumption) | exact MAt.a4 (by assumption) | exact MAt.a5 (by assumption) | exact MAt.a6 (by assumption) | exact MAt.a7 (by assumption) | exact MAt.a8 (by assumption) | exact MAt.a9 (by assumption) | exact MAt.a10 (by assumption) | exact MAt.a11 (by assumption) | exact MAt.a12 (by assumption) | exact MAt.a13 (by assumption) | exact MAt.a14 (by assumption) | exact MAt.a15 (by assumption) | exact MAt.a16 (by assumption)) (by rfl) (by omega) (by omega) dX8_looksOn_27 ?_
        refine r_if_eq_n (tgt := 40) dX8_looksOn_28 (by decide) (by omega) (fun h28 => ?_) (fun h28 => by exfalso; omega)
        refine r_iconst (v := nI 1) dX8_looksOn_40 (by decide) ?_
        refine r_goto (tgt := 45) dX8_looksOn_41 (by decide) ?_
        refine r_istore_n dX8_looksOn_45 (by decide) ?_
        simp only [mst1, mclr]
        first | refine r_iinc_n 1 dX8_looksOn_46 rfl (by decide) ?_ | refine r_iinc dX8_looksOn_46 rfl rfl (by decide) ?_
        simp only [mst1, mclr]
        refine r_goto (tgt := 8) dX8_looksOn_49 (by decide) ?_
        obtain ⟨z1, z2, z3, z4, z5⟩ := hZ
        exact ih (k + 1) M F' A' Z (by omega) hM hK f1 f2 f3 ⟨z1, z2, z3, z4, by omega⟩ (hs _ (by rw [hon]; rfl))
      | true =>
        rw [hon] at a13
        have a13 : A' 13 k = 1 := a13
        refine r_iload_n dX8_looksOn_8 rfl ?_
        first | refine r_aload_n dX8_looksOn_9 rfl ?_ | refine r_aload_nq dX8_looksOn_9 rfl ?_ | refine r_aload_nN dX8_looksOn_9 rfl ?_
        refine r_getf f_X8_9_7 (by first | exact MAt.o (by assumption) | exact MAt.a1 (by assumption) | exact MAt.a2 (by assumption) | exact MAt.a3 (by assumption) | exact MAt.a4 (by assumption) | exact MAt.a5 (by assumption) | exact MAt.a6 (by assumption) | exact MAt.a7 (by assumption) | exact MAt.a8 (by assumption) | exact MAt.a9 (by assumption) | exact MAt.a10 (by assumption) | exact MAt.a11 (by assumption) | exact MAt.a12 (by assumption) | exact MAt.a13 (by assumption) | exact MAt.a14 (by assumption) | exact MAt.a15 (by assumption) | exact MAt.a16 (by assumption)) (by rfl) dX8_looksOn_10 ?_
        refine r_iconst (v := nI 1) dX8_looksOn_13 (by decide) ?_
        refine r_iald_n (by first | exact MAt.o (by assumption) | exact MAt.a1 (by assumption) | exact MAt.a2 (by assumption) | exact MAt.a3 (by assumption) | exact MAt.a4 (by assumption) | exact MAt.a5 (by assumption) | exact MAt.a6 (by assumption) | exact MAt.a7 (by assumption) | exact MAt.a8 (by assumption) | exact MAt.a9 (by assumption) | exact MAt.a10 (by assumption) | exact MAt.a11 (by assumption) | exact MAt.a12 (by assumption) | exact MAt.a13 (by assumption) | exact MAt.a14 (by assumption) | exact MAt.a15 (by assumption) | exact MAt.a16 (by assumption)) (by rfl) (by omega) (by omega) dX8_looksOn_14 ?_
        first | refine r_icmp_ge_n (tgt := 52) dX8_looksOn_15 (by decide) (by omega) (by omega) (fun h15 => by exfalso; omega) (fun h15 => ?_) | refine r_icmp_ge (tgt := 52) dX8_looksOn_15 (by decide) (fun h15 => by exfalso; omega) (fun h15 => ?_)
        refine r_iload_n dX8_looksOn_18 rfl ?_
        refine r_if_eq_b (tgt := 52) dX8_looksOn_19 (by decide) (fun h19 => absurd h19 (by decide)) (fun h19 => ?_)
        first | refine r_aload_n dX8_looksOn_22 rfl ?_ | refine r_aload_nq dX8_looksOn_22 rfl ?_ | refine r_aload_nN dX8_looksOn_22 rfl ?_
        refine r_getf f_X8_46_7 (by first | exact MAt.o (by assumption) | exact MAt.a1 (by assumption) | exact MAt.a2 (by assumption) | exact MAt.a3 (by assumption) | exact MAt.a4 (by assumption) | exact MAt.a5 (by assumption) | exact MAt.a6 (by assumption) | exact MAt.a7 (by assumption) | exact MAt.a8 (by assumption) | exact MAt.a9 (by assumption) | exact MAt.a10 (by assumption) | exact MAt.a11 (by assumption) | exact MAt.a12 (by assumption) | exact MAt.a13 (by assumption) | exact MAt.a14 (by assumption) | exact MAt.a15 (by assumption) | exact MAt.a16 (by assumption)) (by rfl) dX8_looksOn_23 ?_
        refine r_iload_n dX8_looksOn_26 rfl ?_
        first | refine r_zald_n (by first | exact MAt.o (by assumption) | exact MAt.a1 (by assumption) | exact MAt.a2 (by assumption) | exact MAt.a3 (by assumption) | exact MAt.a4 (by assumption) | exact MAt.a5 (by assumption) | exact MAt.a6 (by assumption) | exact MAt.a7 (by assumption) | exact MAt.a8 (by assumption) | exact MAt.a9 (by assumption) | exact MAt.a10 (by assumption) | exact MAt.a11 (by assumption) | exact MAt.a12 (by assumption) | exact MAt.a13 (by assumption) | exact MAt.a14 (by assumption) | exact MAt.a15 (by assumption) | exact MAt.a16 (by assumption)) (by rfl) (by omega) (by omega) dX8_looksOn_27 ?_ | refine r_bald_n (by first | exact MAt.o (by assumption) | exact MAt.a1 (by assumption) | exact MAt.a2 (by assumption) | exact MAt.a3 (by assumption) | exact MAt.a4 (by assumption) | exact MAt.a5 (by assumption) | exact MAt.a6 (by assumption) | exact MAt.a7 (by assumption) | exact MAt.a8 (by assumption) | exact MAt.a9 (by assumption) | exact MAt.a10 (by assumption) | exact MAt.a11 (by assumption) | exact MAt.a12 (by assumption) | exact MAt.a13 (by assumption) | exact MAt.a14 (by assumption) | exact MAt.a15 (by assumption) | exact MAt.a16 (by assumption)) (by rfl) (by omega) (by omega) dX8_looksOn_27 ?_
        refine r_if_eq_n (tgt := 40) dX8_looksOn_28 (by decide) (by omega) (fun h28 => by exfalso; omega) (fun h28 => ?_)
        first | refine r_aload_n dX8_looksOn_31 rfl ?_ | refine r_aload_nq dX8_looksOn_31 rfl ?_ | refine r_aload_nN dX8_looksOn_31 rfl ?_
        refine r_iload_n dX8_looksOn_32 rfl ?_
        refine r_iconst (v := nI 1) dX8_looksOn_33 (by decide) ?_
        refine r_callV s_X8_219_v dX8_looksOn_34 (by first | exact MAt.o (by assumption) | exact MAt.a1 (by assumption) | exact MAt.a2 (by assumption) | exact MAt.a3 (by assumption) | exact MAt.a4 (by assumption) | exact MAt.a5 (by assumption) | exact MAt.a6 (by assumption) | exact MAt.a7 (by assumption) | exact MAt.a8 (by assumption) | exact MAt.a9 (by assumption) | exact MAt.a10 (by assumption) | exact MAt.a11 (by assumption) | exact MAt.a12 (by assumption) | exact MAt.a13 (by assumption) | exact MAt.a14 (by assumption) | exact MAt.a15 (by assumption) | exact MAt.a16 (by assumption)) (by rfl) rfl (Nat.le_of_ble_eq_true rfl) (m_goes hM hb hw hR' true k (by omega) hZ (fun e he M F'' A'' hM hK' g1 g2 g3 => ?_) (fun Z' hZ' M F'' A'' hM hK' g1 g2 g3 hZM => ?_)) 
        skip
        · refine mK_r ?_
          have hall : zRun W true on (wn W) = .inl e := by
            have := zRun_err (hs _ (by rw [hon]; exact he)) n
            rw [show k + 1 + n = wn W by omega] at this
            exact this
          rw [hall] at hq
          have a11 : A'' 1 1 = wn W := by rw [hK'.2 1 (by decide) (by decide) (by decide) (by decide)]; exact a11
          refine r_if_eq_b (tgt := 44) dX8_looksOn_37 (by decide) (fun h37 => ?_) (fun h37 => absurd h37 (by decide))
          refine r_iconst (v := nI 0) dX8_looksOn_44 (by decide) ?_
          refine r_istore_n dX8_looksOn_45 (by decide) ?_
          simp only [mst1, mclr]
          first | refine r_iinc_n 1 dX8_looksOn_46 rfl (by decide) ?_ | refine r_iinc dX8_looksOn_46 rfl rfl (by decide) ?_
          simp only [mst1, mclr]
          refine r_goto (tgt := 8) dX8_looksOn_49 (by decide) ?_
          refine r_iload_n dX8_looksOn_8 rfl ?_
          first | refine r_aload_n dX8_looksOn_9 rfl ?_ | refine r_aload_nq dX8_looksOn_9 rfl ?_ | refine r_aload_nN dX8_looksOn_9 rfl ?_
          refine r_getf f_X8_9_7 (by first | exact MAt.o (by assumption) | exact MAt.a1 (by assumption) | exact MAt.a2 (by assumption) | exact MAt.a3 (by assumption) | exact MAt.a4 (by assumption) | exact MAt.a5 (by assumption) | exact MAt.a6 (by assumption) | exact MAt.a7 (by assumption) | exact MAt.a8 (by assumption) | exact MAt.a9 (by assumption) | exact MAt.a10 (by assumption) | exact MAt.a11 (by assumption) | exact MAt.a12 (by assumption) | exact MAt.a13 (by assumption) | exact MAt.a14 (by assumption) | exact MAt.a15 (by assumption) | exact MAt.a16 (by assumption)) (by rfl) dX8_looksOn_10 ?_
          refine r_iconst (v := nI 1) dX8_looksOn_13 (by decide) ?_
          refine r_iald_n (by first | exact MAt.o (by assumption) | exact MAt.a1 (by assumption) | exact MAt.a2 (by assumption) | exact MAt.a3 (by assumption) | exact MAt.a4 (by assumption) | exact MAt.a5 (by assumption) | exact MAt.a6 (by assumption) | exact MAt.a7 (by assumption) | exact MAt.a8 (by assumption) | exact MAt.a9 (by assumption) | exact MAt.a10 (by assumption) | exact MAt.a11 (by assumption) | exact MAt.a12 (by assumption) | exact MAt.a13 (by assumption) | exact MAt.a14 (by assumption) | exact MAt.a15 (by assumption) | exact MAt.a16 (by assumption)) (by rfl) (by omega) (by omega) dX8_looksOn_14 ?_
          first | refine r_icmp_ge_n (tgt := 52) dX8_looksOn_15 (by decide) (by omega) (by omega) (fun h15 => ?_) (fun h15 => ?_) | refine r_icmp_ge (tgt := 52) dX8_looksOn_15 (by decide) (fun h15 => ?_) (fun h15 => ?_)
          · refine r_iload_n dX8_looksOn_52 rfl ?_
            refine r_if_eq_n (tgt := 60) dX8_looksOn_53 (by decide) (by omega) (fun h53 => ?_) (fun h53 => by exfalso; omega)
            refine r_vret rfl dX8_looksOn_60 ?_
            exact hq _ _ _ hM (hK.tr hK') g1 g2 g3
          · refine r_iload_n dX8_looksOn_18 rfl ?_
            refine r_if_eq_n (tgt := 52) dX8_looksOn_19 (by decide) (by omega) (fun h19 => ?_) (fun h19 => by exfalso; omega)
            refine r_iload_n dX8_looksOn_52 rfl ?_
            refine r_if_eq_n (tgt := 60) dX8_looksOn_53 (by decide) (by omega) (fun h53 => ?_) (fun h53 => by exfalso; omega)
            refine r_vret rfl dX8_looksOn_60 ?_
            exact hq _ _ _ hM (hK.tr hK') g1 g2 g3
        · refine mK_r ?_
          refine r_if_eq_b (tgt := 44) dX8_looksOn_37 (by decide) (fun h37 => absurd h37 (by decide)) (fun h37 => ?_)
          refine r_iconst (v := nI 1) dX8_looksOn_40 (by decide) ?_
          refine r_goto (tgt := 45) dX8_looksOn_41 (by decide) ?_
          refine r_istore_n dX8_looksOn_45 (by decide) ?_
          simp only [mst1, mclr]
          first | refine r_iinc_n 1 dX8_looksOn_46 rfl (by decide) ?_ | refine r_iinc dX8_looksOn_46 rfl rfl (by decide) ?_
          simp only [mst1, mclr]
          refine r_goto (tgt := 8) dX8_looksOn_49 (by decide) ?_
          exact ih (k + 1) M F'' A'' Z' (by omega) hM (hK.tr hK') (by rw [g1]; exact f1) (by rw [g2]; exact f2) (by rw [g3]; exact f3) hZM (hs _ (by rw [hon]; exact hZ'))
  first | refine r_aload_n dX8_looksOn_0 rfl ?_ | refine r_aload_nq dX8_looksOn_0 rfl ?_ | refine r_aload_nN dX8_looksOn_0 rfl ?_
  refine r_callV s_X8_216_v dX8_looksOn_1 (by first | exact MAt.o (by assumption) | exact MAt.a1 (by assumption) | exact MAt.a2 (by assumption) | exact MAt.a3 (by assumption) | exact MAt.a4 (by assumption) | exact MAt.a5 (by assumption) | exact MAt.a6 (by assumption) | exact MAt.a7 (by assumption) | exact MAt.a8 (by assumption) | exact MAt.a9 (by assumption) | exact MAt.a10 (by assumption) | exact MAt.a11 (by assumption) | exact MAt.a12 (by assumption) | exact MAt.a13 (by assumption) | exact MAt.a14 (by assumption) | exact MAt.a15 (by assumption) | exact MAt.a16 (by assumption)) (by rfl) rfl (Nat.le_of_ble_eq_true rfl) (m_begins h hb (fun M A' hM ha hj => ?_))
  refine mK_v ?_
  refine r_iconst (v := nI 1) dX8_looksOn_4 (by decide) ?_
  refine r_istore_n dX8_looksOn_5 (by decide) ?_
  simp only [mst1, mclr]
  refine r_iconst (v := nI 0) dX8_looksOn_6 (by decide) ?_
  refine r_istore_n dX8_looksOn_7 (by decide) ?_
  simp only [mst1, mclr]
  refine loop (wn W) 0 M _ A' (fun _ => 0, []) (by omega) hM ⟨fun i hi => ?_, fun i h5 h10 _ _ => ha i h10⟩ rfl rfl rfl ⟨rfl, hj, fun _ _ => Nat.zero_le _, trivial, Nat.le_refl _⟩ rfl
  rw [fU_ne (by omega), fU_ne (by omega), fU_ne (by omega), fU_ne (by omega)]
end WALK4
