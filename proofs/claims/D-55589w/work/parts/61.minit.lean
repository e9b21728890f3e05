/-! ===== the model is made ===== -/
def mz0 : List Value := [.null, .null, .null, .int 0, .null, .int 0, .int 0, .int 0, .int 0, .null, .null, .null, .null, .null, .int 0, .null, .null, .null, .int 0, .int 0, .int 0, .int 0, .null, .int 0, .int 0, .null, .int 0, .null, .int 0, .int 0, .null]
/-- the will at the start, and all else -/
def w0 : WT := (0, fun _ => 0, fun _ => 0, fun _ => 0, fun _ _ => 0, fun _ => 10, 0, fun _ => 0, fun _ => 0, fun _ => 0, 0)
def x0 : XT := (w0, [], none, [], [], 0, 0, 0)
theorem w0_ok : wOk w0 := ⟨by decide, by decide, by decide, fun g h => absurd h (Nat.not_lt_zero g), fun c _ => ⟨by show 10 ≤ 100; decide, by show 0 ≤ 4; decide, fun p h => absurd h (Nat.not_lt_zero p), fun p q h => absurd h (Nat.not_lt_zero p)⟩, fun k h => absurd h (Nat.not_lt_zero k)⟩
theorem x0_ok : xOk x0 := ⟨w0_ok, Nat.zero_le _, fun w h => (by cases h), fun w h => (by cases h), Nat.zero_le _, fun c h => (by cases h), Nat.zero_le _, fun c h => (by cases h), Nat.zero_le _, Nat.zero_le _⟩
theorem zsE (j : Nat) : (Value.int 0 : Value) = .int (sE j (if 16 ≤ j % 31 ∧ j % 31 < 21 then 1 else 0)) := by
  unfold sE; split <;> rfl
def fi0 : Nat → Nat := fun k => if k = 20 ∨ k = 21 then 1 else 0
def ai0 : Nat → Nat → Nat := fun i j => if i = 16 then 1 else if i = 10 ∨ i = 11 ∨ i = 12 then (if 16 ≤ j % 31 ∧ j % 31 < 21 then 1 else 0) else 0
section MINIT
variable {G : mG} {d : Nat} {M : mM} {m u : Nat} {Q : mQt}
set_option maxHeartbeats 4000000 in
theorem m_init (hM : M m = some (.inr (7, mz0))) (hb : mGb G ≤ m) (hT : m + 17 ≤ mGT G) (hU : u + 3238 ≤ mGU G) (hq : ∀ M', MX M M' m x0 0 → Q (.inl none) M' (m + 17) (u + 3238)) : mMet G (d + 1) zX8_init [.ref m] M (m + 1) u Q := by
  refine m_intro (by decide +kernel) ⟨Nat.le_of_ble_eq_true rfl, Nat.le_of_ble_eq_true rfl⟩ ?_
  show mW G _ _ 0 [some (.ref m), none] [] _ _ _ _
  unfold mz0 at hM
  first | refine r_aload_n dX8_init_0 rfl ?_ | refine r_aload_nq dX8_init_0 rfl ?_ | refine r_aload_nN dX8_init_0 rfl ?_
  refine r_objI q1724 qobj1 qobj2 dX8_init_1 (Nat.le_of_ble_eq_true rfl) ?_
  first | refine r_aload_n dX8_init_4 rfl ?_ | refine r_aload_nq dX8_init_4 rfl ?_ | refine r_aload_nN dX8_init_4 rfl ?_
  refine r_bipush (v := nI 109) dX8_init_5 (by decide) ?_
  refine r_newa (τ := 0) (ty := .int) (atype := .int) (by rfl) (by rfl) q196 (nI_0l (by omega)) (nI_cl (by omega)) (by decide) (by omega) (by omega) dX8_init_7 ?_
  refine r_putF f_X8_9_7 ft_7_0 (fun _ _ _ h => by cases h; rfl) (fun _ _ _ _ => Or.inr trivial) rfl (by first | assumption | exact mset_eq | (refine mset_ne' (by omega) ?_; first | assumption | exact mset_eq | (refine mset_ne' (by omega) ?_; first | assumption | exact mset_eq | (refine mset_ne' (by omega) ?_; first | assumption | exact mset_eq | (refine mset_ne' (by omega) ?_; first | assumption | exact mset_eq | (refine mset_ne' (by omega) ?_; first | assumption | exact mset_eq | (refine mset_ne' (by omega) ?_; first | assumption | exact mset_eq | (refine mset_ne' (by omega) ?_; first | assumption | exact mset_eq | (refine mset_ne' (by omega) ?_; assumption))))))))) (by omega) (by first | rfl | exact bI_nar _) (by first | rfl | exact bI_fit _) dX8_init_9 (fun _ _ _ h => by cases h; exact q1725) ?_
  first | refine r_aload_n dX8_init_12 rfl ?_ | refine r_aload_nq dX8_init_12 rfl ?_ | refine r_aload_nN dX8_init_12 rfl ?_
  refine r_bipush (v := nI 109) dX8_init_13 (by decide) ?_
  refine r_newa (τ := 0) (ty := .int) (atype := .int) (by rfl) (by rfl) q196 (nI_0l (by omega)) (nI_cl (by omega)) (by decide) (by omega) (by omega) dX8_init_15 ?_
  refine r_putF f_X8_13_7 ft_7_1 (fun _ _ _ h => by cases h; rfl) (fun _ _ _ _ => Or.inr trivial) rfl (by first | assumption | exact mset_eq | (refine mset_ne' (by omega) ?_; first | assumption | exact mset_eq | (refine mset_ne' (by omega) ?_; first | assumption | exact mset_eq | (refine mset_ne' (by omega) ?_; first | assumption | exact mset_eq | (refine mset_ne' (by omega) ?_; first | assumption | exact mset_eq | (refine mset_ne' (by omega) ?_; first | assumption | exact mset_eq | (refine mset_ne' (by omega) ?_; first | assumption | exact mset_eq | (refine mset_ne' (by omega) ?_; first | assumption | exact mset_eq | (refine mset_ne' (by omega) ?_; assumption))))))))) (by omega) (by first | rfl | exact bI_nar _) (by first | rfl | exact bI_fit _) dX8_init_17 (fun _ _ _ h => by cases h; exact q1726) ?_
  first | refine r_aload_n dX8_init_20 rfl ?_ | refine r_aload_nq dX8_init_20 rfl ?_ | refine r_aload_nN dX8_init_20 rfl ?_
  refine r_bipush (v := nI 109) dX8_init_21 (by decide) ?_
  refine r_newa (τ := 0) (ty := .int) (atype := .int) (by rfl) (by rfl) q196 (nI_0l (by omega)) (nI_cl (by omega)) (by decide) (by omega) (by omega) dX8_init_23 ?_
  refine r_putF f_X8_16_7 ft_7_2 (fun _ _ _ h => by cases h; rfl) (fun _ _ _ _ => Or.inr trivial) rfl (by first | assumption | exact mset_eq | (refine mset_ne' (by omega) ?_; first | assumption | exact mset_eq | (refine mset_ne' (by omega) ?_; first | assumption | exact mset_eq | (refine mset_ne' (by omega) ?_; first | assumption | exact mset_eq | (refine mset_ne' (by omega) ?_; first | assumption | exact mset_eq | (refine mset_ne' (by omega) ?_; first | assumption | exact mset_eq | (refine mset_ne' (by omega) ?_; first | assumption | exact mset_eq | (refine mset_ne' (by omega) ?_; first | assumption | exact mset_eq | (refine mset_ne' (by omega) ?_; assumption))))))))) (by omega) (by first | rfl | exact bI_nar _) (by first | rfl | exact bI_fit _) dX8_init_25 (fun _ _ _ h => by cases h; exact q1727) ?_
  first | refine r_aload_n dX8_init_28 rfl ?_ | refine r_aload_nq dX8_init_28 rfl ?_ | refine r_aload_nN dX8_init_28 rfl ?_
  refine r_sipush (v := nI 872) dX8_init_29 (by decide) ?_
  refine r_newa (τ := 0) (ty := .int) (atype := .int) (by rfl) (by rfl) q196 (nI_0l (by omega)) (nI_cl (by omega)) (by decide) (by omega) (by omega) dX8_init_32 ?_
  refine r_putF f_X8_19_7 ft_7_4 (fun _ _ _ h => by cases h; rfl) (fun _ _ _ _ => Or.inr trivial) rfl (by first | assumption | exact mset_eq | (refine mset_ne' (by omega) ?_; first | assumption | exact mset_eq | (refine mset_ne' (by omega) ?_; first | assumption | exact mset_eq | (refine mset_ne' (by omega) ?_; first | assumption | exact mset_eq | (refine mset_ne' (by omega) ?_; first | assumption | exact mset_eq | (refine mset_ne' (by omega) ?_; first | assumption | exact mset_eq | (refine mset_ne' (by omega) ?_; first | assumption | exact mset_eq | (refine mset_ne' (by omega) ?_; first | assumption | exact mset_eq | (refine mset_ne' (by omega) ?_; assumption))))))))) (by omega) (by first | rfl | exact bI_nar _) (by first | rfl | exact bI_fit _) dX8_init_34 (fun _ _ _ h => by cases h; exact q1729) ?_
  first | refine r_aload_n dX8_init_37 rfl ?_ | refine r_aload_nq dX8_init_37 rfl ?_ | refine r_aload_nN dX8_init_37 rfl ?_
  refine r_bipush (v := nI 25) dX8_init_38 (by decide) ?_
  refine r_newa (τ := 0) (ty := .int) (atype := .int) (by rfl) (by rfl) q196 (nI_0l (by omega)) (nI_cl (by omega)) (by decide) (by omega) (by omega) dX8_init_40 ?_
  refine r_putF f_X8_22_7 ft_7_9 (fun _ _ _ h => by cases h; rfl) (fun _ _ _ _ => Or.inr trivial) rfl (by first | assumption | exact mset_eq | (refine mset_ne' (by omega) ?_; first | assumption | exact mset_eq | (refine mset_ne' (by omega) ?_; first | assumption | exact mset_eq | (refine mset_ne' (by omega) ?_; first | assumption | exact mset_eq | (refine mset_ne' (by omega) ?_; first | assumption | exact mset_eq | (refine mset_ne' (by omega) ?_; first | assumption | exact mset_eq | (refine mset_ne' (by omega) ?_; first | assumption | exact mset_eq | (refine mset_ne' (by omega) ?_; first | assumption | exact mset_eq | (refine mset_ne' (by omega) ?_; assumption))))))))) (by omega) (by first | rfl | exact bI_nar _) (by first | rfl | exact bI_fit _) dX8_init_42 (fun _ _ _ h => by cases h; exact q1734) ?_
  first | refine r_aload_n dX8_init_45 rfl ?_ | refine r_aload_nq dX8_init_45 rfl ?_ | refine r_aload_nN dX8_init_45 rfl ?_
  refine r_bipush (v := nI 25) dX8_init_46 (by decide) ?_
  refine r_newa (τ := 0) (ty := .int) (atype := .int) (by rfl) (by rfl) q196 (nI_0l (by omega)) (nI_cl (by omega)) (by decide) (by omega) (by omega) dX8_init_48 ?_
  refine r_putF f_X8_25_7 ft_7_10 (fun _ _ _ h => by cases h; rfl) (fun _ _ _ _ => Or.inr trivial) rfl (by first | assumption | exact mset_eq | (refine mset_ne' (by omega) ?_; first | assumption | exact mset_eq | (refine mset_ne' (by omega) ?_; first | assumption | exact mset_eq | (refine mset_ne' (by omega) ?_; first | assumption | exact mset_eq | (refine mset_ne' (by omega) ?_; first | assumption | exact mset_eq | (refine mset_ne' (by omega) ?_; first | assumption | exact mset_eq | (refine mset_ne' (by omega) ?_; first | assumption | exact mset_eq | (refine mset_ne' (by omega) ?_; first | assumption | exact mset_eq | (refine mset_ne' (by omega) ?_; assumption))))))))) (by omega) (by first | rfl | exact bI_nar _) (by first | rfl | exact bI_fit _) dX8_init_50 (fun _ _ _ h => by cases h; exact q1735) ?_
  first | refine r_aload_n dX8_init_53 rfl ?_ | refine r_aload_nq dX8_init_53 rfl ?_ | refine r_aload_nN dX8_init_53 rfl ?_
  refine r_bipush (v := nI 24) dX8_init_54 (by decide) ?_
  refine r_newa (τ := 0) (ty := .int) (atype := .int) (by rfl) (by rfl) q196 (nI_0l (by omega)) (nI_cl (by omega)) (by decide) (by omega) (by omega) dX8_init_56 ?_
  refine r_putF f_X8_28_7 ft_7_11 (fun _ _ _ h => by cases h; rfl) (fun _ _ _ _ => Or.inr trivial) rfl (by first | assumption | exact mset_eq | (refine mset_ne' (by omega) ?_; first | assumption | exact mset_eq | (refine mset_ne' (by omega) ?_; first | assumption | exact mset_eq | (refine mset_ne' (by omega) ?_; first | assumption | exact mset_eq | (refine mset_ne' (by omega) ?_; first | assumption | exact mset_eq | (refine mset_ne' (by omega) ?_; first | assumption | exact mset_eq | (refine mset_ne' (by omega) ?_; first | assumption | exact mset_eq | (refine mset_ne' (by omega) ?_; first | assumption | exact mset_eq | (refine mset_ne' (by omega) ?_; assumption))))))))) (by omega) (by first | rfl | exact bI_nar _) (by first | rfl | exact bI_fit _) dX8_init_58 (fun _ _ _ h => by cases h; exact q1736) ?_
  first | refine r_aload_n dX8_init_61 rfl ?_ | refine r_aload_nq dX8_init_61 rfl ?_ | refine r_aload_nN dX8_init_61 rfl ?_
  refine r_bipush (v := nI 24) dX8_init_62 (by decide) ?_
  refine r_newa (τ := 0) (ty := .int) (atype := .int) (by rfl) (by rfl) q196 (nI_0l (by omega)) (nI_cl (by omega)) (by decide) (by omega) (by omega) dX8_init_64 ?_
  refine r_putF f_X8_31_7 ft_7_12 (fun _ _ _ h => by cases h; rfl) (fun _ _ _ _ => Or.inr trivial) rfl (by first | assumption | exact mset_eq | (refine mset_ne' (by omega) ?_; first | assumption | exact mset_eq | (refine mset_ne' (by omega) ?_; first | assumption | exact mset_eq | (refine mset_ne' (by omega) ?_; first | assumption | exact mset_eq | (refine mset_ne' (by omega) ?_; first | assumption | exact mset_eq | (refine mset_ne' (by omega) ?_; first | assumption | exact mset_eq | (refine mset_ne' (by omega) ?_; first | assumption | exact mset_eq | (refine mset_ne' (by omega) ?_; first | assumption | exact mset_eq | (refine mset_ne' (by omega) ?_; assumption))))))))) (by omega) (by first | rfl | exact bI_nar _) (by first | rfl | exact bI_fit _) dX8_init_66 (fun _ _ _ h => by cases h; exact q1737) ?_
  first | refine r_aload_n dX8_init_69 rfl ?_ | refine r_aload_nq dX8_init_69 rfl ?_ | refine r_aload_nN dX8_init_69 rfl ?_
  refine r_bipush (v := nI 24) dX8_init_70 (by decide) ?_
  refine r_newa (τ := 0) (ty := .int) (atype := .int) (by rfl) (by rfl) q196 (nI_0l (by omega)) (nI_cl (by omega)) (by decide) (by omega) (by omega) dX8_init_72 ?_
  refine r_putF f_X8_34_7 ft_7_13 (fun _ _ _ h => by cases h; rfl) (fun _ _ _ _ => Or.inr trivial) rfl (by first | assumption | exact mset_eq | (refine mset_ne' (by omega) ?_; first | assumption | exact mset_eq | (refine mset_ne' (by omega) ?_; first | assumption | exact mset_eq | (refine mset_ne' (by omega) ?_; first | assumption | exact mset_eq | (refine mset_ne' (by omega) ?_; first | assumption | exact mset_eq | (refine mset_ne' (by omega) ?_; first | assumption | exact mset_eq | (refine mset_ne' (by omega) ?_; first | assumption | exact mset_eq | (refine mset_ne' (by omega) ?_; first | assumption | exact mset_eq | (refine mset_ne' (by omega) ?_; assumption))))))))) (by omega) (by first | rfl | exact bI_nar _) (by first | rfl | exact bI_fit _) dX8_init_74 (fun _ _ _ h => by cases h; exact q1738) ?_
  first | refine r_aload_n dX8_init_77 rfl ?_ | refine r_aload_nq dX8_init_77 rfl ?_ | refine r_aload_nN dX8_init_77 rfl ?_
  refine r_bipush (v := nI 31) dX8_init_78 (by decide) ?_
  refine r_newa (τ := 0) (ty := .int) (atype := .int) (by rfl) (by rfl) q196 (nI_0l (by omega)) (nI_cl (by omega)) (by decide) (by omega) (by omega) dX8_init_80 ?_
  refine r_putF f_X8_37_7 ft_7_15 (fun _ _ _ h => by cases h; rfl) (fun _ _ _ _ => Or.inr trivial) rfl (by first | assumption | exact mset_eq | (refine mset_ne' (by omega) ?_; first | assumption | exact mset_eq | (refine mset_ne' (by omega) ?_; first | assumption | exact mset_eq | (refine mset_ne' (by omega) ?_; first | assumption | exact mset_eq | (refine mset_ne' (by omega) ?_; first | assumption | exact mset_eq | (refine mset_ne' (by omega) ?_; first | assumption | exact mset_eq | (refine mset_ne' (by omega) ?_; first | assumption | exact mset_eq | (refine mset_ne' (by omega) ?_; first | assumption | exact mset_eq | (refine mset_ne' (by omega) ?_; assumption))))))))) (by omega) (by first | rfl | exact bI_nar _) (by first | rfl | exact bI_fit _) dX8_init_82 (fun _ _ _ h => by cases h; exact q1740) ?_
  first | refine r_aload_n dX8_init_85 rfl ?_ | refine r_aload_nq dX8_init_85 rfl ?_ | refine r_aload_nN dX8_init_85 rfl ?_
  refine r_sipush (v := nI 775) dX8_init_86 (by decide) ?_
  refine r_newa (τ := 0) (ty := .int) (atype := .int) (by rfl) (by rfl) q196 (nI_0l (by omega)) (nI_cl (by omega)) (by decide) (by omega) (by omega) dX8_init_89 ?_
  refine r_putF f_X8_40_7 ft_7_16 (fun _ _ _ h => by cases h; rfl) (fun _ _ _ _ => Or.inr trivial) rfl (by first | assumption | exact mset_eq | (refine mset_ne' (by omega) ?_; first | assumption | exact mset_eq | (refine mset_ne' (by omega) ?_; first | assumption | exact mset_eq | (refine mset_ne' (by omega) ?_; first | assumption | exact mset_eq | (refine mset_ne' (by omega) ?_; first | assumption | exact mset_eq | (refine mset_ne' (by omega) ?_; first | assumption | exact mset_eq | (refine mset_ne' (by omega) ?_; first | assumption | exact mset_eq | (refine mset_ne' (by omega) ?_; first | assumption | exact mset_eq | (refine mset_ne' (by omega) ?_; assumption))))))))) (by omega) (by first | rfl | exact bI_nar _) (by first | rfl | exact bI_fit _) dX8_init_91 (fun _ _ _ h => by cases h; exact q1741) ?_
  first | refine r_aload_n dX8_init_94 rfl ?_ | refine r_aload_nq dX8_init_94 rfl ?_ | refine r_aload_nN dX8_init_94 rfl ?_
  refine r_sipush (v := nI 775) dX8_init_95 (by decide) ?_
  refine r_newa (τ := 0) (ty := .int) (atype := .int) (by rfl) (by rfl) q196 (nI_0l (by omega)) (nI_cl (by omega)) (by decide) (by omega) (by omega) dX8_init_98 ?_
  refine r_putF f_X8_43_7 ft_7_17 (fun _ _ _ h => by cases h; rfl) (fun _ _ _ _ => Or.inr trivial) rfl (by first | assumption | exact mset_eq | (refine mset_ne' (by omega) ?_; first | assumption | exact mset_eq | (refine mset_ne' (by omega) ?_; first | assumption | exact mset_eq | (refine mset_ne' (by omega) ?_; first | assumption | exact mset_eq | (refine mset_ne' (by omega) ?_; first | assumption | exact mset_eq | (refine mset_ne' (by omega) ?_; first | assumption | exact mset_eq | (refine mset_ne' (by omega) ?_; first | assumption | exact mset_eq | (refine mset_ne' (by omega) ?_; first | assumption | exact mset_eq | (refine mset_ne' (by omega) ?_; assumption))))))))) (by omega) (by first | rfl | exact bI_nar _) (by first | rfl | exact bI_fit _) dX8_init_100 (fun _ _ _ h => by cases h; exact q1742) ?_
  first | refine r_aload_n dX8_init_103 rfl ?_ | refine r_aload_nq dX8_init_103 rfl ?_ | refine r_aload_nN dX8_init_103 rfl ?_
  refine r_bipush (v := nI 24) dX8_init_104 (by decide) ?_
  refine r_newa (τ := 1) (ty := .boolean) (atype := .boolean) (by rfl) (by rfl) q251 (nI_0l (by omega)) (nI_cl (by omega)) (by decide) (by omega) (by omega) dX8_init_106 ?_
  refine r_putF f_X8_46_7 ft_7_22 (fun _ _ _ h => by cases h; rfl) (fun _ _ _ _ => Or.inr trivial) rfl (by first | assumption | exact mset_eq | (refine mset_ne' (by omega) ?_; first | assumption | exact mset_eq | (refine mset_ne' (by omega) ?_; first | assumption | exact mset_eq | (refine mset_ne' (by omega) ?_; first | assumption | exact mset_eq | (refine mset_ne' (by omega) ?_; first | assumption | exact mset_eq | (refine mset_ne' (by omega) ?_; first | assumption | exact mset_eq | (refine mset_ne' (by omega) ?_; first | assumption | exact mset_eq | (refine mset_ne' (by omega) ?_; first | assumption | exact mset_eq | (refine mset_ne' (by omega) ?_; assumption))))))))) (by omega) (by first | rfl | exact bI_nar _) (by first | rfl | exact bI_fit _) dX8_init_108 (fun _ _ _ h => by cases h; exact q1747) ?_
  first | refine r_aload_n dX8_init_111 rfl ?_ | refine r_aload_nq dX8_init_111 rfl ?_ | refine r_aload_nN dX8_init_111 rfl ?_
  refine r_bipush (v := nI 72) dX8_init_112 (by decide) ?_
  refine r_newa (τ := 3) (ty := .char) (atype := .char) (by rfl) (by rfl) q1819 (nI_0l (by omega)) (nI_cl (by omega)) (by decide) (by omega) (by omega) dX8_init_114 ?_
  refine r_putF f_X8_50_7 ft_7_25 (fun _ _ _ h => by cases h; rfl) (fun _ _ _ _ => Or.inr trivial) rfl (by first | assumption | exact mset_eq | (refine mset_ne' (by omega) ?_; first | assumption | exact mset_eq | (refine mset_ne' (by omega) ?_; first | assumption | exact mset_eq | (refine mset_ne' (by omega) ?_; first | assumption | exact mset_eq | (refine mset_ne' (by omega) ?_; first | assumption | exact mset_eq | (refine mset_ne' (by omega) ?_; first | assumption | exact mset_eq | (refine mset_ne' (by omega) ?_; first | assumption | exact mset_eq | (refine mset_ne' (by omega) ?_; first | assumption | exact mset_eq | (refine mset_ne' (by omega) ?_; assumption))))))))) (by omega) (by first | rfl | exact bI_nar _) (by first | rfl | exact bI_fit _) dX8_init_116 (fun _ _ _ h => by cases h; exact q1750) ?_
  first | refine r_aload_n dX8_init_119 rfl ?_ | refine r_aload_nq dX8_init_119 rfl ?_ | refine r_aload_nN dX8_init_119 rfl ?_
  refine r_bipush (v := nI 60) dX8_init_120 (by decide) ?_
  refine r_newa (τ := 3) (ty := .char) (atype := .char) (by rfl) (by rfl) q1819 (nI_0l (by omega)) (nI_cl (by omega)) (by decide) (by omega) (by omega) dX8_init_122 ?_
  refine r_putF f_X8_54_7 ft_7_27 (fun _ _ _ h => by cases h; rfl) (fun _ _ _ _ => Or.inr trivial) rfl (by first | assumption | exact mset_eq | (refine mset_ne' (by omega) ?_; first | assumption | exact mset_eq | (refine mset_ne' (by omega) ?_; first | assumption | exact mset_eq | (refine mset_ne' (by omega) ?_; first | assumption | exact mset_eq | (refine mset_ne' (by omega) ?_; first | assumption | exact mset_eq | (refine mset_ne' (by omega) ?_; first | assumption | exact mset_eq | (refine mset_ne' (by omega) ?_; first | assumption | exact mset_eq | (refine mset_ne' (by omega) ?_; first | assumption | exact mset_eq | (refine mset_ne' (by omega) ?_; assumption))))))))) (by omega) (by first | rfl | exact bI_nar _) (by first | rfl | exact bI_fit _) dX8_init_124 (fun _ _ _ h => by cases h; exact q1752) ?_
  first | refine r_aload_n dX8_init_127 rfl ?_ | refine r_aload_nq dX8_init_127 rfl ?_ | refine r_aload_nN dX8_init_127 rfl ?_
  refine r_iconst (v := -1) dX8_init_128 (by decide) ?_
  refine r_putf f_X8_57_7 ft_7_29 (by first | assumption | exact mset_eq | (refine mset_ne' (by omega) ?_; first | assumption | exact mset_eq | (refine mset_ne' (by omega) ?_; first | assumption | exact mset_eq | (refine mset_ne' (by omega) ?_; first | assumption | exact mset_eq | (refine mset_ne' (by omega) ?_; first | assumption | exact mset_eq | (refine mset_ne' (by omega) ?_; first | assumption | exact mset_eq | (refine mset_ne' (by omega) ?_; first | assumption | exact mset_eq | (refine mset_ne' (by omega) ?_; first | assumption | exact mset_eq | (refine mset_ne' (by omega) ?_; assumption))))))))) (by omega) (by first | rfl | exact bI_nar _) (by first | rfl | exact bI_fit _) dX8_init_129 ?_
  first | refine r_aload_n dX8_init_132 rfl ?_ | refine r_aload_nq dX8_init_132 rfl ?_ | refine r_aload_nN dX8_init_132 rfl ?_
  refine r_sipush (v := nI 180) dX8_init_133 (by decide) ?_
  refine r_newa (τ := 0) (ty := .int) (atype := .int) (by rfl) (by rfl) q196 (nI_0l (by omega)) (nI_cl (by omega)) (by decide) (by omega) (by omega) dX8_init_136 ?_
  refine r_putF f_X8_61_7 ft_7_30 (fun _ _ _ h => by cases h; rfl) (fun _ _ _ _ => Or.inr trivial) rfl (by first | assumption | exact mset_eq | (refine mset_ne' (by omega) ?_; first | assumption | exact mset_eq | (refine mset_ne' (by omega) ?_; first | assumption | exact mset_eq | (refine mset_ne' (by omega) ?_; first | assumption | exact mset_eq | (refine mset_ne' (by omega) ?_; first | assumption | exact mset_eq | (refine mset_ne' (by omega) ?_; first | assumption | exact mset_eq | (refine mset_ne' (by omega) ?_; first | assumption | exact mset_eq | (refine mset_ne' (by omega) ?_; first | assumption | exact mset_eq | (refine mset_ne' (by omega) ?_; assumption))))))))) (by omega) (by first | rfl | exact bI_nar _) (by first | rfl | exact bI_fit _) dX8_init_138 (fun _ _ _ h => by cases h; exact q1755) ?_
  refine (fun (K : ∀ (M' : mM), MAt M M' m fi0 0 ai0 → ∀ a b, a = m + 17 → b = u + 3238 → mW G zX8_init (d + 1) 141 [some (.ref m), none] [] M' a b Q) => K _ ?_ _ _ (by omega) (by omega)) ?_
  · refine ⟨fun i hi => ?_, fun a ha => by repeat rw [mset_ne (by omega)]⟩
    obtain rfl | rfl | rfl | rfl | rfl | rfl | rfl | rfl | rfl | rfl | rfl | rfl | rfl | rfl | rfl | rfl | rfl : i = 0 ∨ i = 1 ∨ i = 2 ∨ i = 3 ∨ i = 4 ∨ i = 5 ∨ i = 6 ∨ i = 7 ∨ i = 8 ∨ i = 9 ∨ i = 10 ∨ i = 11 ∨ i = 12 ∨ i = 13 ∨ i = 14 ∨ i = 15 ∨ i = 16 := by omega
    · rw [show m + 0 = m from rfl]
      repeat rw [mset_ne (by omega)]
      rw [mset_eq]; rfl
    · repeat rw [mset_ne (by omega)]
      rw [mset_eq]; rfl
    · repeat rw [mset_ne (by omega)]
      rw [mset_eq]; rfl
    · repeat rw [mset_ne (by omega)]
      rw [mset_eq]; rfl
    · repeat rw [mset_ne (by omega)]
      rw [mset_eq]; rfl
    · repeat rw [mset_ne (by omega)]
      rw [mset_eq]; rfl
    · repeat rw [mset_ne (by omega)]
      rw [mset_eq]; rfl
    · repeat rw [mset_ne (by omega)]
      rw [mset_eq]; rfl
    · repeat rw [mset_ne (by omega)]
      rw [mset_eq]; rfl
    · repeat rw [mset_ne (by omega)]
      rw [mset_eq]; rfl
    · repeat rw [mset_ne (by omega)]
      rw [mset_eq]; exact congrArg (fun f => some (Sum.inl (0, _, f))) (funext fun j => zsE j)
    · repeat rw [mset_ne (by omega)]
      rw [mset_eq]; exact congrArg (fun f => some (Sum.inl (0, _, f))) (funext fun j => zsE j)
    · repeat rw [mset_ne (by omega)]
      rw [mset_eq]; exact congrArg (fun f => some (Sum.inl (0, _, f))) (funext fun j => zsE j)
    · repeat rw [mset_ne (by omega)]
      rw [mset_eq]; rfl
    · repeat rw [mset_ne (by omega)]
      rw [mset_eq]; rfl
    · repeat rw [mset_ne (by omega)]
      rw [mset_eq]; rfl
    · repeat rw [mset_ne (by omega)]
      rw [mset_eq]; rfl

  · rintro M1 hM1 _ _ rfl rfl
    have loop : ∀ n c M' A', c + n = 3 → MAt M M' m fi0 0 A' → (∀ i, i ≠ 1 → A' i = ai0 i) → (∀ j, A' 1 j = if 3 ≤ j ∧ j < 3 + c then 10 else 0) → mW G zX8_init (d + 1) 143 [some (.ref m), some (.int (nI c))] [] M' (m + 17) (u + 3238) Q := by
      intro n
      induction n with
      | zero =>
        intro c M' A' hc hM kA k1
        have hc : c = 3 := by omega
        subst hc
        refine r_iload_n dX8_init_143 rfl ?_
        refine r_iconst (v := nI 3) dX8_init_144 (by decide) ?_
        first | refine r_icmp_ge_n (tgt := 164) dX8_init_145 (by decide) (by omega) (by omega) (fun h145 => ?_) (fun h145 => by exfalso; omega) | refine r_icmp_ge (tgt := 164) dX8_init_145 (by decide) (fun h145 => ?_) (fun h145 => by exfalso; omega)
        refine r_vret rfl dX8_init_164 ?_
        refine hq _ (MX_iff.mpr ⟨fi0, A', hM, ⟨x0_ok, rfl, fun i w hw => (by cases hw), rfl, rfl, fun i c hc => (by cases hc), rfl, fun i c hc => (by cases hc), rfl, rfl⟩, ⟨?_, ?_, ?_, fun c hc => ⟨?_, ?_, fun p hp => absurd hp (Nat.not_lt_zero p)⟩, fun g hg => absurd hg (Nat.not_lt_zero g), fun k hk => absurd hk (Nat.not_lt_zero k)⟩, rfl⟩)
        · rw [k1]; rfl
        · rw [k1]; rfl
        · rw [k1]; rfl
        · rw [k1, if_pos (by omega)]; rfl
        · rw [k1, if_neg (by omega)]; rfl
      | succ n ih =>
        intro c M' A' hc hM kA k1
        refine r_iload_n dX8_init_143 rfl ?_
        refine r_iconst (v := nI 3) dX8_init_144 (by decide) ?_
        first | refine r_icmp_ge_n (tgt := 164) dX8_init_145 (by decide) (by omega) (by omega) (fun h145 => by exfalso; omega) (fun h145 => ?_) | refine r_icmp_ge (tgt := 164) dX8_init_145 (by decide) (fun h145 => by exfalso; omega) (fun h145 => ?_)
        first | refine r_aload_n dX8_init_148 rfl ?_ | refine r_aload_nq dX8_init_148 rfl ?_ | refine r_aload_nN dX8_init_148 rfl ?_
        refine r_getf f_X8_9_7 (by first | exact MAt.o (by assumption) | exact MAt.a1 (by assumption) | exact MAt.a2 (by assumption) | exact MAt.a3 (by assumption) | exact MAt.a4 (by assumption) | exact MAt.a5 (by assumption) | exact MAt.a6 (by assumption) | exact MAt.a7 (by assumption) | exact MAt.a8 (by assumption) | exact MAt.a9 (by assumption) | exact MAt.a10 (by assumption) | exact MAt.a11 (by assumption) | exact MAt.a12 (by assumption) | exact MAt.a13 (by assumption) | exact MAt.a14 (by assumption) | exact MAt.a15 (by assumption) | exact MAt.a16 (by assumption)) (by rfl) dX8_init_149 ?_
        refine r_iconst (v := nI 3) dX8_init_152 (by decide) ?_
        refine r_iload_n dX8_init_153 rfl ?_
        first | refine r_iadd_n dX8_init_154 ?_ | refine r_iadd dX8_init_154 ?_
        refine r_bipush (v := nI 10) dX8_init_155 (by decide) ?_
        refine r_iast_n (by first | exact MAt.o (by assumption) | exact MAt.a1 (by assumption) | exact MAt.a2 (by assumption) | exact MAt.a3 (by assumption) | exact MAt.a4 (by assumption) | exact MAt.a5 (by assumption) | exact MAt.a6 (by assumption) | exact MAt.a7 (by assumption) | exact MAt.a8 (by assumption) | exact MAt.a9 (by assumption) | exact MAt.a10 (by assumption) | exact MAt.a11 (by assumption) | exact MAt.a12 (by assumption) | exact MAt.a13 (by assumption) | exact MAt.a14 (by assumption) | exact MAt.a15 (by assumption) | exact MAt.a16 (by assumption)) (by rfl) (by omega) (by omega) (by omega) dX8_init_157 ?_
        first | refine MAt.g1 (by assumption) (fun M hM => ?_) | refine MAt.g2 (by assumption) (fun M hM => ?_) | refine MAt.g3 (by assumption) (fun M hM => ?_) | refine MAt.g4 (by assumption) (fun M hM => ?_) | refine MAt.g5 (by assumption) (fun M hM => ?_) | refine MAt.g6 (by assumption) (fun M hM => ?_) | refine MAt.g7 (by assumption) (fun M hM => ?_) | refine MAt.g8 (by assumption) (fun M hM => ?_) | refine MAt.g9 (by assumption) (fun M hM => ?_) | refine MAt.g16 (by assumption) (fun M hM => ?_) | refine MAt.g10 _ (by assumption) ?_ (fun M hM => ?_) | refine MAt.g11 _ (by assumption) ?_ (fun M hM => ?_) | refine MAt.g12 _ (by assumption) ?_ (fun M hM => ?_)
        first | refine r_iinc_n 1 dX8_init_158 rfl (by decide) ?_ | refine r_iinc dX8_init_158 rfl rfl (by decide) ?_
        simp only [mst1, mclr]
        refine r_goto (tgt := 143) dX8_init_161 (by decide) ?_
        refine ih (c + 1) _ _ (by omega) hM (fun i hi => by rw [fA_ne hi]; exact kA i hi) (fun j => ?_)
        rw [fA_eq]
        by_cases e : j = 3 + c
        · rw [e, fU_eq, if_pos (by omega)]
        · rw [fU_ne e, k1]
          by_cases hh : 3 ≤ j ∧ j < 3 + c
          · rw [if_pos hh, if_pos (by omega)]
          · rw [if_neg hh, if_neg (by omega)]
    refine r_iconst (v := nI 0) dX8_init_141 (by decide) ?_
    refine r_istore_n dX8_init_142 (by decide) ?_
    simp only [mst1, mclr]
    exact loop 3 0 M1 ai0 (by omega) hM1 (fun _ _ => rfl) (fun j => by rw [if_neg (by omega)]; rfl)
end MINIT
