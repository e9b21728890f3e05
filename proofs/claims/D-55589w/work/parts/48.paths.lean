/-! ===== paths ===== -/
/-- whether path n of f, which stands at p, goes through clause q -/
def fOn : Fo → Nat → Nat → Nat → Bool
  | .var _, _, _, _ => false
  | .op (.var _) r, p, n, q => decide (q = p) || fOn r (p + 1) n q
  | .op (.op a b) r, p, n, q => decide (q = p ∨ q = p + 1 + fl a ∨ q = p + 2 + fl a + fl b) ||
      ((if n / fc r < fc a then fOn a (p + 1) (n / fc r) q else fOn b (p + 2 + fl a) (n / fc r - fc a) q) || fOn r (p + 3 + fl a + fl b) (n % fc r) q)
/-- how many choices it meets -/
def fCh : Fo → Nat → Nat
  | .var _, _ => 0
  | .op (.var _) r, n => fCh r n
  | .op (.op a b) r, n => 1 + ((if n / fc r < fc a then fCh a (n / fc r) else fCh b (n / fc r - fc a)) + fCh r (n % fc r))
theorem fOn_in : ∀ {f : Fo} {p n q : Nat}, fOn f p n q = true → p ≤ q ∧ q < p + fl f
  | .var _, p, n, q, h => by cases h
  | .op (.var v) r, p, n, q, h => by
    simp only [fOn, Bool.or_eq_true, decide_eq_true_eq] at h
    simp only [fl]
    rcases h with h | h
    · omega
    · have := fOn_in h; omega
  | .op (.op a b) r, p, n, q, h => by
    simp only [fOn, Bool.or_eq_true, decide_eq_true_eq] at h
    simp only [fl]
    rcases h with h | h | h
    · omega
    · split at h
      · have := fOn_in h; omega
      · have := fOn_in h; omega
    · have := fOn_in h; omega
theorem ar_1 (L R c : Nat) : L / (c * R) = L / R / c := by rw [Nat.div_div_eq_div_mul, Nat.mul_comm]
theorem ar_2 (L R c : Nat) : L % (c * R) / R = L / R % c := by rw [Nat.mul_comm]; exact Nat.mod_mul_right_div_self ..
theorem ar_3 (L R c : Nat) : L % (c * R) % R = L % R := by rw [Nat.mul_comm]; exact Nat.mod_mul_right_mod ..
theorem ar_4 {L T a : Nat} (hT : 0 < T) (h : a * T ≤ L) : (L - a * T) / T = L / T - a ∧ (L - a * T) % T = L % T := by
  obtain ⟨y, rfl⟩ : ∃ y, L = y + a * T := ⟨L - a * T, by omega⟩
  rw [Nat.add_sub_cancel, Nat.add_mul_div_right _ _ hT, Nat.add_mul_mod_self_right]
  exact ⟨(Nat.add_sub_cancel ..).symm, rfl⟩
section PATHS
variable {G : mG} {y : mY} {d pc : Nat} {L : List (Option Value)} {st : List Value} {B M : mM} {m t u th : Nat} {X : XT} {F : Nat → Nat} {D : Int32} {A : Nat → Nat → Nat} {Q : mQt}
theorem loopK (hb : mGb G ≤ m) : ∀ (g : Fo) (q d1 e1 x R L T : Nat) (M : mM) (F : Nat → Nat) (A : Nat → Nat → Nat) (v1 v5 v6 v7 v8 : Option Value) (Q : mQt), MAt B M m F D A → me (A 8) (A 9) q g → wb (fun k => A 1 (37 + 3 * k)) q g d1 e1 → T = q + fl g → T ≤ 24 → fh g ≤ x → 0 < R → L < fc g * R → fc g * R ≤ 256 → F 24 = L →
    (∀ M F' A', MAt B M m F' D A' → (∀ i, i ≠ 23 → i ≠ 24 → F' i = F i) → (∀ i, i ≠ 13 → A' i = A i) → F' 23 = F 23 + fCh g (L / R) → F' 24 = L % R → (∀ j, A' 13 j = if fOn g q (L / R) j = true then 1 else A 13 j) → Q (.inl none) M t u) →
    mW G zX8_marks (d + x + 10) 3 [some (.ref m), v1, some (.int (nI T)), some (.int (nI R)), some (.int (nI q)), v5, v6, v7, v8] [] M t u Q
  | .var _, q, d1, e1, x, R, L, T, M, F, A, v1, v5, v6, v7, v8, Q, h, hm, hw, hT, hT2, hx, hR, hL, hS, h24, hq => by
    simp only [fl] at hT
    simp only [fc, Nat.one_mul] at hL
    refine r_iload dX8_marks_3 rfl ?_
    refine r_iload_n dX8_marks_5 rfl ?_
    first | refine r_icmp_ge_n (tgt := 157) dX8_marks_6 (by decide) (by omega) (by omega) (fun h6 => ?_) (fun h6 => by exfalso; omega) | refine r_icmp_ge (tgt := 157) dX8_marks_6 (by decide) (fun h6 => ?_) (fun h6 => by exfalso; omega)
    refine r_vret rfl dX8_marks_157 ?_
    exact hq _ _ _ h (fun _ _ _ => rfl) (fun _ _ => rfl) rfl (by rw [h24, Nat.mod_eq_of_lt hL]) (fun j => rfl)
  | .op (.var v) r, q, d1, e1, x, R, L, T, M, F, A, v1, v5, v6, v7, v8, Q, h, hm, hw, hT, hT2, hx, hR, hL, hS, h24, hq => by
    simp only [fl] at hT
    have hs : A 1 (37 + 3 * q) < 7 := by
      rcases hw with ⟨h0, -⟩ | ⟨h0, -⟩ | ⟨h0, -⟩ <;> simp only at h0 <;> omega
    have nx : ∀ M, MAt B M m F D (fA A 13 (fU (A 13) q 1)) → mW G zX8_marks (d + x + 10) 3 [some (.ref m), v1, some (.int (nI T)), some (.int (nI R)), some (.int (nI (q + 1))), v5, v6, v7, v8] [] M t u Q := by
      intro M hM
      have fin : ∀ M F' A', MAt B M m F' D A' → (∀ i, i ≠ 23 → i ≠ 24 → F' i = F i) → (∀ i, i ≠ 13 → A' i = fA A 13 (fU (A 13) q 1) i) → F' 23 = F 23 + fCh r (L / R) → F' 24 = L % R → (∀ j, A' 13 j = if fOn r (q + 1) (L / R) j = true then 1 else fA A 13 (fU (A 13) q 1) 13 j) → Q (.inl none) M t u := by
        intro M F' A' hM a1 a2 a3 a4 a5
        refine hq M F' A' hM a1 (fun i hi => (a2 i hi).trans (fA_ne hi)) a3 a4 (fun j => ?_)
        rw [a5 j, fA_eq]
        simp only [fOn, Bool.or_eq_true, decide_eq_true_eq]
        by_cases h1 : fOn r (q + 1) (L / R) j = true
        · rw [if_pos h1, if_pos (Or.inr h1)]
        · rw [if_neg h1]
          by_cases h2 : j = q
          · rw [if_pos (Or.inl h2), h2, fU_eq]
          · rw [if_neg (fun hh => hh.elim h2 h1), fU_ne h2]
      rcases hw with ⟨h0, hw⟩ | ⟨h0, d', hd, hw⟩ | ⟨h0, hw⟩
      · exact loopK hb r (q + 1) _ _ x R L T M F _ v1 v5 v6 v7 v8 Q hM hm hw (by omega) hT2 hx hR hL hS h24 fin
      · exact loopK hb r (q + 1) _ _ x R L T M F _ v1 v5 v6 v7 v8 Q hM hm hw (by omega) hT2 hx hR hL hS h24 fin
      · exact loopK hb r (q + 1) _ _ x R L T M F _ v1 v5 v6 v7 v8 Q hM hm hw (by omega) hT2 hx hR hL hS h24 fin
    refine r_iload dX8_marks_3 rfl ?_
    refine r_iload_n dX8_marks_5 rfl ?_
    first | refine r_icmp_ge_n (tgt := 157) dX8_marks_6 (by decide) (by omega) (by omega) (fun h6 => by exfalso; omega) (fun h6 => ?_) | refine r_icmp_ge (tgt := 157) dX8_marks_6 (by decide) (fun h6 => by exfalso; omega) (fun h6 => ?_)
    first | refine r_aload_n dX8_marks_9 rfl ?_ | refine r_aload_nq dX8_marks_9 rfl ?_ | refine r_aload_nN dX8_marks_9 rfl ?_
    refine r_getf f_X8_46_7 (by first | exact MAt.o (by assumption) | exact MAt.a1 (by assumption) | exact MAt.a2 (by assumption) | exact MAt.a3 (by assumption) | exact MAt.a4 (by assumption) | exact MAt.a5 (by assumption) | exact MAt.a6 (by assumption) | exact MAt.a7 (by assumption) | exact MAt.a8 (by assumption) | exact MAt.a9 (by assumption) | exact MAt.a10 (by assumption) | exact MAt.a11 (by assumption) | exact MAt.a12 (by assumption) | exact MAt.a13 (by assumption) | exact MAt.a14 (by assumption) | exact MAt.a15 (by assumption) | exact MAt.a16 (by assumption)) (by rfl) dX8_marks_10 ?_
    refine r_iload dX8_marks_13 rfl ?_
    refine r_iconst (v := nI 1) dX8_marks_15 (by decide) ?_
    refine r_zast_n (by first | exact MAt.o (by assumption) | exact MAt.a1 (by assumption) | exact MAt.a2 (by assumption) | exact MAt.a3 (by assumption) | exact MAt.a4 (by assumption) | exact MAt.a5 (by assumption) | exact MAt.a6 (by assumption) | exact MAt.a7 (by assumption) | exact MAt.a8 (by assumption) | exact MAt.a9 (by assumption) | exact MAt.a10 (by assumption) | exact MAt.a11 (by assumption) | exact MAt.a12 (by assumption) | exact MAt.a13 (by assumption) | exact MAt.a14 (by assumption) | exact MAt.a15 (by assumption) | exact MAt.a16 (by assumption)) (by rfl) (by omega) (by omega) (by omega) (by rfl) dX8_marks_16 ?_
    refine MAt.g13 (by assumption) (fun M hM => ?_)
    first | refine r_aload_n dX8_marks_17 rfl ?_ | refine r_aload_nq dX8_marks_17 rfl ?_ | refine r_aload_nN dX8_marks_17 rfl ?_
    refine r_iload dX8_marks_18 rfl ?_
    refine r_callV s_X8_110_v dX8_marks_20 (by first | exact MAt.o (by assumption) | exact MAt.a1 (by assumption) | exact MAt.a2 (by assumption) | exact MAt.a3 (by assumption) | exact MAt.a4 (by assumption) | exact MAt.a5 (by assumption) | exact MAt.a6 (by assumption) | exact MAt.a7 (by assumption) | exact MAt.a8 (by assumption) | exact MAt.a9 (by assumption) | exact MAt.a10 (by assumption) | exact MAt.a11 (by assumption) | exact MAt.a12 (by assumption) | exact MAt.a13 (by assumption) | exact MAt.a14 (by assumption) | exact MAt.a15 (by assumption) | exact MAt.a16 (by assumption)) (by rfl) rfl (Nat.le_of_ble_eq_true rfl) (m_sort hM q (by omega) ?_)
    refine mK_r ?_
    rw [show fA A 13 (fU (A 13) q 1) 1 = A 1 from rfl]
    refine r_bipush (v := nI 7) dX8_marks_23 (by decide) ?_
    first | refine r_icmp_ne_n (tgt := 151) dX8_marks_25 (by decide) (by omega) (by omega) (fun h25 => ?_) (fun h25 => by exfalso; omega) | refine r_icmp_ne_pn (tgt := 151) dX8_marks_25 (by decide) (by omega) (by omega) (fun h25 => ?_) (fun h25 => by exfalso; omega) | refine r_icmp_ne_pm (tgt := 151) dX8_marks_25 (by decide) (by omega) (fun h25 => ?_) (fun h25 => by exfalso; omega) | refine r_icmp_ne (tgt := 151) dX8_marks_25 (by decide) (fun h25 => ?_) (fun h25 => by exfalso; omega)
    first | refine r_iinc_n 1 dX8_marks_151 rfl (by decide) ?_ | refine r_iinc dX8_marks_151 rfl rfl (by decide) ?_
    simp only [mst1, mclr]
    refine r_goto (tgt := 3) dX8_marks_154 (by decide) ?_
    exact nx _ hM
  | .op (.op a b) r, q, d1, e1, x, R, L, T, M, F, A, v1, v5, v6, v7, v8, Q, h, ⟨m1, m2, m3, m4, m5⟩, ⟨w1, w2, w3, w4, w5, w6⟩, hT, hT2, hx, hR, hL, hS, h24, hq => by
    simp only [fl] at hT
    simp only [fh] at hx
    simp only [fc] at hL hS
    obtain ⟨y, rfl⟩ : ∃ y, x = y + 1 := ⟨x - 1, by omega⟩
    have w1 : A 1 (37 + 3 * q) = 7 := w1
    have pa := fc_pos a; have pb := fc_pos b; have pr := fc_pos r
    have hTh : 0 < fc r * R := Nat.mul_pos pr hR
    have eS : (fc a + fc b) * fc r * R = fc a * (fc r * R) + fc b * (fc r * R) := by rw [Nat.mul_assoc, Nat.add_mul]
    have hAh : fh a ≤ 8 := by have := fh_le a; omega
    have hRh : fh r ≤ 8 := by have := fh_le r; omega
    have lT : fc r * R ≤ fc a * (fc r * R) := Nat.le_mul_of_pos_left _ pa
    have lT2 : fc r * R ≤ fc b * (fc r * R) := Nat.le_mul_of_pos_left _ pb
    refine r_iload dX8_marks_3 rfl ?_
    refine r_iload_n dX8_marks_5 rfl ?_
    first | refine r_icmp_ge_n (tgt := 157) dX8_marks_6 (by decide) (by omega) (by omega) (fun h6 => by exfalso; omega) (fun h6 => ?_) | refine r_icmp_ge (tgt := 157) dX8_marks_6 (by decide) (fun h6 => by exfalso; omega) (fun h6 => ?_)
    first | refine r_aload_n dX8_marks_9 rfl ?_ | refine r_aload_nq dX8_marks_9 rfl ?_ | refine r_aload_nN dX8_marks_9 rfl ?_
    refine r_getf f_X8_46_7 (by first | exact MAt.o (by assumption) | exact MAt.a1 (by assumption) | exact MAt.a2 (by assumption) | exact MAt.a3 (by assumption) | exact MAt.a4 (by assumption) | exact MAt.a5 (by assumption) | exact MAt.a6 (by assumption) | exact MAt.a7 (by assumption) | exact MAt.a8 (by assumption) | exact MAt.a9 (by assumption) | exact MAt.a10 (by assumption) | exact MAt.a11 (by assumption) | exact MAt.a12 (by assumption) | exact MAt.a13 (by assumption) | exact MAt.a14 (by assumption) | exact MAt.a15 (by assumption) | exact MAt.a16 (by assumption)) (by rfl) dX8_marks_10 ?_
    refine r_iload dX8_marks_13 rfl ?_
    refine r_iconst (v := nI 1) dX8_marks_15 (by decide) ?_
    refine r_zast_n (by first | exact MAt.o (by assumption) | exact MAt.a1 (by assumption) | exact MAt.a2 (by assumption) | exact MAt.a3 (by assumption) | exact MAt.a4 (by assumption) | exact MAt.a5 (by assumption) | exact MAt.a6 (by assumption) | exact MAt.a7 (by assumption) | exact MAt.a8 (by assumption) | exact MAt.a9 (by assumption) | exact MAt.a10 (by assumption) | exact MAt.a11 (by assumption) | exact MAt.a12 (by assumption) | exact MAt.a13 (by assumption) | exact MAt.a14 (by assumption) | exact MAt.a15 (by assumption) | exact MAt.a16 (by assumption)) (by rfl) (by omega) (by omega) (by omega) (by rfl) dX8_marks_16 ?_
    refine MAt.g13 (by assumption) (fun M hM => ?_)
    first | refine r_aload_n dX8_marks_17 rfl ?_ | refine r_aload_nq dX8_marks_17 rfl ?_ | refine r_aload_nN dX8_marks_17 rfl ?_
    refine r_iload dX8_marks_18 rfl ?_
    refine r_callV s_X8_110_v dX8_marks_20 (by first | exact MAt.o (by assumption) | exact MAt.a1 (by assumption) | exact MAt.a2 (by assumption) | exact MAt.a3 (by assumption) | exact MAt.a4 (by assumption) | exact MAt.a5 (by assumption) | exact MAt.a6 (by assumption) | exact MAt.a7 (by assumption) | exact MAt.a8 (by assumption) | exact MAt.a9 (by assumption) | exact MAt.a10 (by assumption) | exact MAt.a11 (by assumption) | exact MAt.a12 (by assumption) | exact MAt.a13 (by assumption) | exact MAt.a14 (by assumption) | exact MAt.a15 (by assumption) | exact MAt.a16 (by assumption)) (by rfl) rfl (Nat.le_of_ble_eq_true rfl) (m_sort hM q (by omega) ?_)
    refine mK_r ?_
    rw [show fA A 13 (fU (A 13) q 1) 1 = A 1 from rfl]
    obtain ⟨A1, hA1, hM1⟩ : ∃ A1 : Nat → Nat → Nat, A1 = fA A 13 (fU (A 13) q 1) ∧ MAt B M m F D A1 := ⟨_, rfl, hM⟩
    have q1 : A1 1 = A 1 := by rw [hA1]; rfl
    have q8 : A1 8 = A 8 := by rw [hA1]; rfl
    have q9 : A1 9 = A 9 := by rw [hA1]; rfl
    have q8' : A1 8 q = q + 1 + fl a := by rw [q8]; exact m1
    have q9' : A1 9 q = q + 2 + fl a + fl b := by rw [q9]; exact m2
    clear hM
    refine r_bipush (v := nI 7) dX8_marks_23 (by decide) ?_
    first | refine r_icmp_ne_n (tgt := 151) dX8_marks_25 (by decide) (by omega) (by omega) (fun h25 => by exfalso; omega) (fun h25 => ?_) | refine r_icmp_ne_pn (tgt := 151) dX8_marks_25 (by decide) (by omega) (by omega) (fun h25 => by exfalso; omega) (fun h25 => ?_) | refine r_icmp_ne_pm (tgt := 151) dX8_marks_25 (by decide) (by omega) (fun h25 => by exfalso; omega) (fun h25 => ?_) | refine r_icmp_ne (tgt := 151) dX8_marks_25 (by decide) (fun h25 => by exfalso; omega) (fun h25 => ?_)
    first | refine r_aload_n dX8_marks_28 rfl ?_ | refine r_aload_nq dX8_marks_28 rfl ?_ | refine r_aload_nN dX8_marks_28 rfl ?_
    refine r_getf f_X8_31_7 (by first | exact MAt.o (by assumption) | exact MAt.a1 (by assumption) | exact MAt.a2 (by assumption) | exact MAt.a3 (by assumption) | exact MAt.a4 (by assumption) | exact MAt.a5 (by assumption) | exact MAt.a6 (by assumption) | exact MAt.a7 (by assumption) | exact MAt.a8 (by assumption) | exact MAt.a9 (by assumption) | exact MAt.a10 (by assumption) | exact MAt.a11 (by assumption) | exact MAt.a12 (by assumption) | exact MAt.a13 (by assumption) | exact MAt.a14 (by assumption) | exact MAt.a15 (by assumption) | exact MAt.a16 (by assumption)) (by rfl) dX8_marks_29 ?_
    refine r_iload dX8_marks_32 rfl ?_
    refine r_iald_n (by first | exact MAt.o (by assumption) | exact MAt.a1 (by assumption) | exact MAt.a2 (by assumption) | exact MAt.a3 (by assumption) | exact MAt.a4 (by assumption) | exact MAt.a5 (by assumption) | exact MAt.a6 (by assumption) | exact MAt.a7 (by assumption) | exact MAt.a8 (by assumption) | exact MAt.a9 (by assumption) | exact MAt.a10 (by assumption) | exact MAt.a11 (by assumption) | exact MAt.a12 (by assumption) | exact MAt.a13 (by assumption) | exact MAt.a14 (by assumption) | exact MAt.a15 (by assumption) | exact MAt.a16 (by assumption)) (by rfl) (by omega) (by omega) dX8_marks_34 ?_
    refine r_istore dX8_marks_35 (by decide) ?_
    simp only [mst1, mclr]
    first | refine r_aload_n dX8_marks_37 rfl ?_ | refine r_aload_nq dX8_marks_37 rfl ?_ | refine r_aload_nN dX8_marks_37 rfl ?_
    refine r_getf f_X8_34_7 (by first | exact MAt.o (by assumption) | exact MAt.a1 (by assumption) | exact MAt.a2 (by assumption) | exact MAt.a3 (by assumption) | exact MAt.a4 (by assumption) | exact MAt.a5 (by assumption) | exact MAt.a6 (by assumption) | exact MAt.a7 (by assumption) | exact MAt.a8 (by assumption) | exact MAt.a9 (by assumption) | exact MAt.a10 (by assumption) | exact MAt.a11 (by assumption) | exact MAt.a12 (by assumption) | exact MAt.a13 (by assumption) | exact MAt.a14 (by assumption) | exact MAt.a15 (by assumption) | exact MAt.a16 (by assumption)) (by rfl) dX8_marks_38 ?_
    refine r_iload dX8_marks_41 rfl ?_
    refine r_iald_n (by first | exact MAt.o (by assumption) | exact MAt.a1 (by assumption) | exact MAt.a2 (by assumption) | exact MAt.a3 (by assumption) | exact MAt.a4 (by assumption) | exact MAt.a5 (by assumption) | exact MAt.a6 (by assumption) | exact MAt.a7 (by assumption) | exact MAt.a8 (by assumption) | exact MAt.a9 (by assumption) | exact MAt.a10 (by assumption) | exact MAt.a11 (by assumption) | exact MAt.a12 (by assumption) | exact MAt.a13 (by assumption) | exact MAt.a14 (by assumption) | exact MAt.a15 (by assumption) | exact MAt.a16 (by assumption)) (by rfl) (by omega) (by omega) dX8_marks_43 ?_
    refine r_istore dX8_marks_44 (by decide) ?_
    simp only [mst1, mclr]
    first | refine r_aload_n dX8_marks_46 rfl ?_ | refine r_aload_nq dX8_marks_46 rfl ?_ | refine r_aload_nN dX8_marks_46 rfl ?_
    refine r_iload dX8_marks_47 rfl ?_
    refine r_iconst (v := nI 1) dX8_marks_49 (by decide) ?_
    first | refine r_iadd_n dX8_marks_50 ?_ | refine r_iadd dX8_marks_50 ?_
    refine r_iload_n dX8_marks_51 rfl ?_
    rw [q8', q9', show q + 2 + fl a + fl b + 1 = q + 3 + fl a + fl b by omega]
    refine r_callV s_X8_232_v dX8_marks_52 (by first | exact MAt.o (by assumption) | exact MAt.a1 (by assumption) | exact MAt.a2 (by assumption) | exact MAt.a3 (by assumption) | exact MAt.a4 (by assumption) | exact MAt.a5 (by assumption) | exact MAt.a6 (by assumption) | exact MAt.a7 (by assumption) | exact MAt.a8 (by assumption) | exact MAt.a9 (by assumption) | exact MAt.a10 (by assumption) | exact MAt.a11 (by assumption) | exact MAt.a12 (by assumption) | exact MAt.a13 (by assumption) | exact MAt.a14 (by assumption) | exact MAt.a15 (by assumption) | exact MAt.a16 (by assumption)) (by rfl) rfl (Nat.le_of_ble_eq_true rfl) (m_count (d := d + y + 1) hM1 r (q + 3 + fl a + fl b) d1 e1 8 T (by rw [q8, q9]; exact m5) (by rw [q1]; exact w6) (by omega) (by omega) hRh ?_)
    refine mK_r ?_
    refine r_iload_n dX8_marks_55 rfl ?_
    first | refine r_imul_n dX8_marks_56 ?_ | refine r_imul dX8_marks_56 ?_
    refine r_istore dX8_marks_57 (by decide) ?_
    simp only [mst1, mclr]
    first | refine r_aload_n dX8_marks_59 rfl ?_ | refine r_aload_nq dX8_marks_59 rfl ?_ | refine r_aload_nN dX8_marks_59 rfl ?_
    refine r_iload dX8_marks_60 rfl ?_
    refine r_iconst (v := nI 1) dX8_marks_62 (by decide) ?_
    first | refine r_iadd_n dX8_marks_63 ?_ | refine r_iadd dX8_marks_63 ?_
    refine r_iload dX8_marks_64 rfl ?_
    refine r_callV s_X8_232_v dX8_marks_66 (by first | exact MAt.o (by assumption) | exact MAt.a1 (by assumption) | exact MAt.a2 (by assumption) | exact MAt.a3 (by assumption) | exact MAt.a4 (by assumption) | exact MAt.a5 (by assumption) | exact MAt.a6 (by assumption) | exact MAt.a7 (by assumption) | exact MAt.a8 (by assumption) | exact MAt.a9 (by assumption) | exact MAt.a10 (by assumption) | exact MAt.a11 (by assumption) | exact MAt.a12 (by assumption) | exact MAt.a13 (by assumption) | exact MAt.a14 (by assumption) | exact MAt.a15 (by assumption) | exact MAt.a16 (by assumption)) (by rfl) rfl (Nat.le_of_ble_eq_true rfl) (m_count (d := d + y + 1) hM1 a (q + 1) 0 0 8 (q + 1 + fl a) (by rw [q8, q9]; exact m3) (by rw [q1]; exact w2) rfl (by omega) hAh ?_)
    refine mK_r ?_
    refine r_iload dX8_marks_69 rfl ?_
    first | refine r_imul_n dX8_marks_71 ?_ | refine r_imul dX8_marks_71 ?_
    refine r_istore dX8_marks_72 (by decide) ?_
    simp only [mst1, mclr]
    first | refine r_aload_n dX8_marks_74 rfl ?_ | refine r_aload_nq dX8_marks_74 rfl ?_ | refine r_aload_nN dX8_marks_74 rfl ?_
    refine r_dup dX8_marks_75 (by rfl) ?_
    refine r_getf f_X8_235_7 (by first | exact MAt.o (by assumption) | exact MAt.a1 (by assumption) | exact MAt.a2 (by assumption) | exact MAt.a3 (by assumption) | exact MAt.a4 (by assumption) | exact MAt.a5 (by assumption) | exact MAt.a6 (by assumption) | exact MAt.a7 (by assumption) | exact MAt.a8 (by assumption) | exact MAt.a9 (by assumption) | exact MAt.a10 (by assumption) | exact MAt.a11 (by assumption) | exact MAt.a12 (by assumption) | exact MAt.a13 (by assumption) | exact MAt.a14 (by assumption) | exact MAt.a15 (by assumption) | exact MAt.a16 (by assumption)) (by rfl) dX8_marks_76 ?_
    refine r_iconst (v := nI 1) dX8_marks_79 (by decide) ?_
    first | refine r_iadd_n dX8_marks_80 ?_ | refine r_iadd dX8_marks_80 ?_
    refine r_putf f_X8_235_7 ft_7_23 (by first | exact MAt.o (by assumption) | exact MAt.a1 (by assumption) | exact MAt.a2 (by assumption) | exact MAt.a3 (by assumption) | exact MAt.a4 (by assumption) | exact MAt.a5 (by assumption) | exact MAt.a6 (by assumption) | exact MAt.a7 (by assumption) | exact MAt.a8 (by assumption) | exact MAt.a9 (by assumption) | exact MAt.a10 (by assumption) | exact MAt.a11 (by assumption) | exact MAt.a12 (by assumption) | exact MAt.a13 (by assumption) | exact MAt.a14 (by assumption) | exact MAt.a15 (by assumption) | exact MAt.a16 (by assumption)) (by omega) (by first | rfl | exact bI_nar _) (by first | rfl | exact bI_fit _) dX8_marks_81 ?_
    refine MAt.p23 (by assumption) (fun M hM => ?_)
    first | refine r_aload_n dX8_marks_84 rfl ?_ | refine r_aload_nq dX8_marks_84 rfl ?_ | refine r_aload_nN dX8_marks_84 rfl ?_
    refine r_getf f_X8_46_7 (by first | exact MAt.o (by assumption) | exact MAt.a1 (by assumption) | exact MAt.a2 (by assumption) | exact MAt.a3 (by assumption) | exact MAt.a4 (by assumption) | exact MAt.a5 (by assumption) | exact MAt.a6 (by assumption) | exact MAt.a7 (by assumption) | exact MAt.a8 (by assumption) | exact MAt.a9 (by assumption) | exact MAt.a10 (by assumption) | exact MAt.a11 (by assumption) | exact MAt.a12 (by assumption) | exact MAt.a13 (by assumption) | exact MAt.a14 (by assumption) | exact MAt.a15 (by assumption) | exact MAt.a16 (by assumption)) (by rfl) dX8_marks_85 ?_
    refine r_iload dX8_marks_88 rfl ?_
    refine r_iconst (v := nI 1) dX8_marks_90 (by decide) ?_
    refine r_zast_n (by first | exact MAt.o (by assumption) | exact MAt.a1 (by assumption) | exact MAt.a2 (by assumption) | exact MAt.a3 (by assumption) | exact MAt.a4 (by assumption) | exact MAt.a5 (by assumption) | exact MAt.a6 (by assumption) | exact MAt.a7 (by assumption) | exact MAt.a8 (by assumption) | exact MAt.a9 (by assumption) | exact MAt.a10 (by assumption) | exact MAt.a11 (by assumption) | exact MAt.a12 (by assumption) | exact MAt.a13 (by assumption) | exact MAt.a14 (by assumption) | exact MAt.a15 (by assumption) | exact MAt.a16 (by assumption)) (by rfl) (by omega) (by omega) (by omega) (by rfl) dX8_marks_91 ?_
    refine MAt.g13 (by assumption) (fun M hM => ?_)
    first | refine r_aload_n dX8_marks_92 rfl ?_ | refine r_aload_nq dX8_marks_92 rfl ?_ | refine r_aload_nN dX8_marks_92 rfl ?_
    refine r_getf f_X8_46_7 (by first | exact MAt.o (by assumption) | exact MAt.a1 (by assumption) | exact MAt.a2 (by assumption) | exact MAt.a3 (by assumption) | exact MAt.a4 (by assumption) | exact MAt.a5 (by assumption) | exact MAt.a6 (by assumption) | exact MAt.a7 (by assumption) | exact MAt.a8 (by assumption) | exact MAt.a9 (by assumption) | exact MAt.a10 (by assumption) | exact MAt.a11 (by assumption) | exact MAt.a12 (by assumption) | exact MAt.a13 (by assumption) | exact MAt.a14 (by assumption) | exact MAt.a15 (by assumption) | exact MAt.a16 (by assumption)) (by rfl) dX8_marks_93 ?_
    refine r_iload dX8_marks_96 rfl ?_
    refine r_iconst (v := nI 1) dX8_marks_98 (by decide) ?_
    refine r_zast_n (by first | exact MAt.o (by assumption) | exact MAt.a1 (by assumption) | exact MAt.a2 (by assumption) | exact MAt.a3 (by assumption) | exact MAt.a4 (by assumption) | exact MAt.a5 (by assumption) | exact MAt.a6 (by assumption) | exact MAt.a7 (by assumption) | exact MAt.a8 (by assumption) | exact MAt.a9 (by assumption) | exact MAt.a10 (by assumption) | exact MAt.a11 (by assumption) | exact MAt.a12 (by assumption) | exact MAt.a13 (by assumption) | exact MAt.a14 (by assumption) | exact MAt.a15 (by assumption) | exact MAt.a16 (by assumption)) (by rfl) (by omega) (by omega) (by omega) (by rfl) dX8_marks_99 ?_
    refine MAt.g13 (by assumption) (fun M hM => ?_)
    obtain ⟨A2, F2, hA2, hF2, hM2⟩ : ∃ (A2 : Nat → Nat → Nat) (F2 : Nat → Nat), A2 = fA (fA A1 13 (fU (A1 13) (q + 1 + fl a) 1)) 13 (fU (fA A1 13 (fU (A1 13) (q + 1 + fl a) 1) 13) (q + 2 + fl a + fl b) 1) ∧ F2 = fU F 23 (F 23 + 1) ∧ MAt B M m F2 D A2 := ⟨_, _, rfl, rfl, hM⟩
    have p1 : A2 1 = A 1 := by rw [hA2]; exact q1
    have p8 : A2 8 = A 8 := by rw [hA2]; exact q8
    have p9 : A2 9 = A 9 := by rw [hA2]; exact q9
    have pO : ∀ i, i ≠ 13 → A2 i = A i := fun i hi => by rw [hA2, fA_ne hi, fA_ne hi, hA1, fA_ne hi]
    have p13 : ∀ j, A2 13 j = if (j = q ∨ j = q + 1 + fl a ∨ j = q + 2 + fl a + fl b) then 1 else A 13 j := by
      intro j
      rw [hA2, fA_eq, fA_eq, hA1, fA_eq]
      unfold fU
      split
      · rw [if_pos (by omega)]
      · split
        · rw [if_pos (by omega)]
        · split
          · rw [if_pos (by omega)]
          · rw [if_neg (by omega)]
    have f24 : F2 24 = L := by rw [hF2]; exact h24
    have f23 : F2 23 = F 23 + 1 := by rw [hF2]; exact fU_eq
    have fO : ∀ i, i ≠ 23 → i ≠ 24 → F2 i = F i := fun i h1 h2 => by rw [hF2]; exact fU_ne h1
    clear hM
    -- behind the choice
    have nx : ∀ (M : mM) (F' : Nat → Nat) (A' : Nat → Nat → Nat), MAt B M m F' D A' → (∀ i, i ≠ 23 → i ≠ 24 → F' i = F2 i) → (∀ i, i ≠ 13 → A' i = A2 i) → F' 23 = F2 23 + (if L / R / fc r < fc a then fCh a (L / R / fc r) else fCh b (L / R / fc r - fc a)) → F' 24 = L % (fc r * R) →
        (∀ j, A' 13 j = if (if L / R / fc r < fc a then fOn a (q + 1) (L / R / fc r) j else fOn b (q + 2 + fl a) (L / R / fc r - fc a) j) = true then 1 else A2 13 j) →
        mW G zX8_marks (d + (y + 1) + 10) 147 [some (.ref m), v1, some (.int (nI T)), some (.int (nI R)), some (.int (nI q)), some (.int (nI (q + 1 + fl a))), some (.int (nI (q + 2 + fl a + fl b))), some (.int (nI (fc r * R))), some (.int (nI (fc a * (fc r * R))))] [] M t u Q := by
      intro M F' A' hM a1 a2 a3 a4 a5
      refine r_iload dX8_marks_147 rfl ?_
      refine r_istore dX8_marks_149 (by decide) ?_
      simp only [mst1, mclr]
      first | refine r_iinc_n 1 dX8_marks_151 rfl (by decide) ?_ | refine r_iinc dX8_marks_151 rfl rfl (by decide) ?_
      simp only [mst1, mclr]
      refine r_goto (tgt := 3) dX8_marks_154 (by decide) ?_
      rw [show q + 2 + fl a + fl b + 1 = q + 3 + fl a + fl b by omega]
      have lt : L % (fc r * R) < fc r * R := Nat.mod_lt _ hTh
      refine loopK hb r (q + 3 + fl a + fl b) d1 e1 (y + 1) R (L % (fc r * R)) T M F' A' v1 _ _ _ _ Q hM (by rw [a2 8 (by decide), a2 9 (by decide), p8, p9]; exact m5) (by rw [a2 1 (by decide), p1]; exact w6) (by omega) hT2 (by omega) hR lt (by omega) a4 (fun M F'' A'' hM b1 b2 b3 b4 b5 => ?_)
      refine hq M F'' A'' hM (fun i h1 h2 => ((b1 i h1 h2).trans (a1 i h1 h2)).trans (fO i h1 h2)) (fun i hi => ((b2 i hi).trans (a2 i hi)).trans (pO i hi)) ?_ (b4.trans (ar_3 _ _ _)) (fun j => ?_)
      · rw [b3, a3, f23, ar_2]
        show _ = F 23 + (1 + (_ + _))
        omega
      · rw [b5 j, a5 j, p13 j, ar_2]
        simp only [fOn, Bool.or_eq_true, decide_eq_true_eq]
        by_cases h1 : fOn r (q + 3 + fl a + fl b) (L / R % fc r) j = true
        · rw [if_pos h1, if_pos (Or.inr (Or.inr h1))]
        · rw [if_neg h1]
          by_cases h2 : (if L / R / fc r < fc a then fOn a (q + 1) (L / R / fc r) j else fOn b (q + 2 + fl a) (L / R / fc r - fc a) j) = true
          · rw [if_pos h2, if_pos (Or.inr (Or.inl h2))]
          · rw [if_neg h2]
            by_cases h3 : j = q ∨ j = q + 1 + fl a ∨ j = q + 2 + fl a + fl b
            · rw [if_pos h3, if_pos (Or.inl h3)]
            · rw [if_neg h3, if_neg (fun hh => hh.elim h3 (fun hh => hh.elim h2 h1))]
    have eC : L / (fc r * R) = L / R / fc r := ar_1 L R (fc r)
    first | refine r_aload_n dX8_marks_100 rfl ?_ | refine r_aload_nq dX8_marks_100 rfl ?_ | refine r_aload_nN dX8_marks_100 rfl ?_
    refine r_getf f_X8_238_7 (by first | exact MAt.o (by assumption) | exact MAt.a1 (by assumption) | exact MAt.a2 (by assumption) | exact MAt.a3 (by assumption) | exact MAt.a4 (by assumption) | exact MAt.a5 (by assumption) | exact MAt.a6 (by assumption) | exact MAt.a7 (by assumption) | exact MAt.a8 (by assumption) | exact MAt.a9 (by assumption) | exact MAt.a10 (by assumption) | exact MAt.a11 (by assumption) | exact MAt.a12 (by assumption) | exact MAt.a13 (by assumption) | exact MAt.a14 (by assumption) | exact MAt.a15 (by assumption) | exact MAt.a16 (by assumption)) (by rfl) dX8_marks_101 ?_
    refine r_iload dX8_marks_104 rfl ?_
    first | refine r_icmp_ge_n (tgt := 124) dX8_marks_106 (by decide) (by omega) (by omega) (fun h106 => ?_) (fun h106 => ?_) | refine r_icmp_ge (tgt := 124) dX8_marks_106 (by decide) (fun h106 => ?_) (fun h106 => ?_)
    · have hge : ¬ L / R / fc r < fc a := by
        rw [← eC]
        have := (Nat.le_div_iff_mul_le hTh).mpr (show fc a * (fc r * R) ≤ L by omega)
        omega
      obtain ⟨r1, r2⟩ := ar_4 hTh (show fc a * (fc r * R) ≤ L by omega)
      first | refine r_aload_n dX8_marks_124 rfl ?_ | refine r_aload_nq dX8_marks_124 rfl ?_ | refine r_aload_nN dX8_marks_124 rfl ?_
      refine r_dup dX8_marks_125 (by rfl) ?_
      refine r_getf f_X8_238_7 (by first | exact MAt.o (by assumption) | exact MAt.a1 (by assumption) | exact MAt.a2 (by assumption) | exact MAt.a3 (by assumption) | exact MAt.a4 (by assumption) | exact MAt.a5 (by assumption) | exact MAt.a6 (by assumption) | exact MAt.a7 (by assumption) | exact MAt.a8 (by assumption) | exact MAt.a9 (by assumption) | exact MAt.a10 (by assumption) | exact MAt.a11 (by assumption) | exact MAt.a12 (by assumption) | exact MAt.a13 (by assumption) | exact MAt.a14 (by assumption) | exact MAt.a15 (by assumption) | exact MAt.a16 (by assumption)) (by rfl) dX8_marks_126 ?_
      refine r_iload dX8_marks_129 rfl ?_
      first | refine r_isub_n dX8_marks_131 (by omega) ?_ | refine r_isub dX8_marks_131 ?_
      refine r_putf f_X8_238_7 ft_7_24 (by first | exact MAt.o (by assumption) | exact MAt.a1 (by assumption) | exact MAt.a2 (by assumption) | exact MAt.a3 (by assumption) | exact MAt.a4 (by assumption) | exact MAt.a5 (by assumption) | exact MAt.a6 (by assumption) | exact MAt.a7 (by assumption) | exact MAt.a8 (by assumption) | exact MAt.a9 (by assumption) | exact MAt.a10 (by assumption) | exact MAt.a11 (by assumption) | exact MAt.a12 (by assumption) | exact MAt.a13 (by assumption) | exact MAt.a14 (by assumption) | exact MAt.a15 (by assumption) | exact MAt.a16 (by assumption)) (by omega) (by first | rfl | exact bI_nar _) (by first | rfl | exact bI_fit _) dX8_marks_132 ?_
      refine MAt.p24 (by assumption) (fun M hM => ?_)
      rw [f24] at hM
      first | refine r_aload_n dX8_marks_135 rfl ?_ | refine r_aload_nq dX8_marks_135 rfl ?_ | refine r_aload_nN dX8_marks_135 rfl ?_
      refine r_iload dX8_marks_136 rfl ?_
      refine r_iconst (v := nI 1) dX8_marks_138 (by decide) ?_
      first | refine r_iadd_n dX8_marks_139 ?_ | refine r_iadd dX8_marks_139 ?_
      refine r_iload dX8_marks_140 rfl ?_
      refine r_iload dX8_marks_142 rfl ?_
      rw [show q + 1 + fl a + 1 = q + 2 + fl a by omega]
      refine r_callV s_X8_241_v dX8_marks_144 (MAt.o hM) (by rfl) rfl (Nat.le_of_ble_eq_true rfl) (?_ : mMet G (d + y + 10) zX8_marks [.ref m, .int (nI (q + 2 + fl a)), .int (nI (q + 2 + fl a + fl b)), .int (nI (fc r * R))] _ _ _ _)
      refine m_intro (by decide +kernel) ⟨Nat.le_of_ble_eq_true rfl, Nat.le_of_ble_eq_true rfl⟩ ?_
      show mW G _ _ 0 [some (.ref m), some (.int (nI (q + 2 + fl a))), some (.int (nI (q + 2 + fl a + fl b))), some (.int (nI (fc r * R))), none, none, none, none, none] [] _ _ _ _
      refine r_iload_n dX8_marks_0 rfl ?_
      refine r_istore dX8_marks_1 (by decide) ?_
      simp only [mst1, mclr]
      refine loopK hb b (q + 2 + fl a) 0 0 y (fc r * R) (L - fc a * (fc r * R)) _ M _ A2 _ _ _ _ _ _ hM (by rw [p8, p9]; exact m4) (by rw [p1]; exact w4) rfl (by omega) (by omega) hTh (by omega) (by omega) fU_eq (fun M F' A' hM b1 b2 b3 b4 b5 => ?_)
      refine mK_v ?_
      refine nx M F' A' hM (fun i h1 h2 => (b1 i h1 h2).trans (fU_ne h2)) b2 ?_ (b4.trans r2) (fun j => ?_)
      · rw [b3, if_neg hge, r1, eC]; rfl
      · rw [b5 j, if_neg hge, r1, eC]
    · have hlt : L / R / fc r < fc a := by
        rw [← eC]
        exact (Nat.div_lt_iff_lt_mul hTh).mpr (by omega)
      first | refine r_aload_n dX8_marks_109 rfl ?_ | refine r_aload_nq dX8_marks_109 rfl ?_ | refine r_aload_nN dX8_marks_109 rfl ?_
      refine r_iload dX8_marks_110 rfl ?_
      refine r_iconst (v := nI 1) dX8_marks_112 (by decide) ?_
      first | refine r_iadd_n dX8_marks_113 ?_ | refine r_iadd dX8_marks_113 ?_
      refine r_iload dX8_marks_114 rfl ?_
      refine r_iload dX8_marks_116 rfl ?_
      refine r_callV s_X8_241_v dX8_marks_118 (MAt.o hM2) (by rfl) rfl (Nat.le_of_ble_eq_true rfl) (?_ : mMet G (d + y + 10) zX8_marks [.ref m, .int (nI (q + 1)), .int (nI (q + 1 + fl a)), .int (nI (fc r * R))] _ _ _ _)
      refine m_intro (by decide +kernel) ⟨Nat.le_of_ble_eq_true rfl, Nat.le_of_ble_eq_true rfl⟩ ?_
      show mW G _ _ 0 [some (.ref m), some (.int (nI (q + 1))), some (.int (nI (q + 1 + fl a))), some (.int (nI (fc r * R))), none, none, none, none, none] [] _ _ _ _
      refine r_iload_n dX8_marks_0 rfl ?_
      refine r_istore dX8_marks_1 (by decide) ?_
      simp only [mst1, mclr]
      refine loopK hb a (q + 1) 0 0 y (fc r * R) L _ M F2 A2 _ _ _ _ _ _ hM2 (by rw [p8, p9]; exact m3) (by rw [p1]; exact w2) rfl (by omega) (by omega) hTh (by omega) (by omega) f24 (fun M F' A' hM b1 b2 b3 b4 b5 => ?_)
      refine mK_v ?_
      refine r_goto (tgt := 147) dX8_marks_121 (by decide) ?_
      refine nx M F' A' hM b1 b2 ?_ b4 (fun j => ?_)
      · rw [b3, if_pos hlt, eC]
      · rw [b5 j, if_pos hlt, eC]
end PATHS
