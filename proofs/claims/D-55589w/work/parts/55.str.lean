/-! ===== String.charAt of a String constant ===== -/
section STR
variable {G : mG} {y : mY} {d pc : Nat} {L : List (Option Value)} {st : List Value} {M : mM} {t u : Nat} {Q : mQt} {a b : Nat}
theorem r_getsK {i : Nat} {C n ds : String} {P : Value → Prop} (hZ : mKn G → ∃ v, mStat G C n ds v ∧ P v) (hw : Cond.fieldLink (mYn y).cls i C n ds ∈ lw_all) (hd : decode (mYc y) pc = .ok (.getstatic i, 3)) (k : ∀ v, P v → mW G y d (pc + 3) L (v :: st) M t u Q) : mW G y d pc L st M t u Q := by
  intro p e R s m args below meth c CX H locs ls cells slots hR hl hL
  obtain ⟨v, h1, h2⟩ := hZ CX.kn
  exact r_gets h1 hw hd (k v h2) p e R s m args below meth c CX H locs ls cells slots hR hl hL
theorem r_getsE {i : Nat} {C n ds : String} {v : Value} (hZ : mKn G → mStat G C n ds v) (hw : Cond.fieldLink (mYn y).cls i C n ds ∈ lw_all) (hd : decode (mYc y) pc = .ok (.getstatic i, 3)) (k : mW G y d (pc + 3) L (v :: st) M t u Q) : mW G y d pc L st M t u Q :=
  r_getsK (P := fun w => w = v) (fun h => ⟨v, hZ h, rfl⟩) hw hd (fun w e => by rw [e]; exact k)
theorem j_isLatin1L (h : mLit G litB a b) (hq : Q (.inl (some (.int (bI true)))) M t u) : mMet G d zJ4_isLatin1 [.ref a] M t u Q := by
  refine m_intro (by decide +kernel) ⟨Nat.le_of_ble_eq_true rfl, Nat.le_of_ble_eq_true rfl⟩ ?_
  show mW G _ _ 0 [some (.ref a)] [] _ _ _ _
  refine r_getsE kCompact q805 dJ4_isLatin1_0 ?_
  refine r_if_eq (tgt := 17) dJ4_isLatin1_3 (by decide) (fun h => absurd h (by decide)) (fun _ => ?_)
  first | refine r_aload_n dJ4_isLatin1_6 rfl ?_ | refine r_aload_nq dJ4_isLatin1_6 rfl ?_ | refine r_aload_nN dJ4_isLatin1_6 rfl ?_
  refine r_getCoder h q936 dJ4_isLatin1_7 ?_
  refine r_if_ne (tgt := 17) dJ4_isLatin1_10 (by decide) (fun h => absurd rfl h) (fun _ => ?_)
  refine r_iconst (v := nI 1) dJ4_isLatin1_13 (by decide) ?_
  refine r_goto (tgt := 18) dJ4_isLatin1_14 (by decide) ?_
  refine r_iret rfl (by first | rfl | exact bI_nar _ | exact (pk_charN (by first | assumption | omega)).1) dJ4_isLatin1_18 ?_
  exact hq
theorem j_checkP (v : Value) (hv : v = .null ∨ ∃ a, v = .ref a) (i n : Nat) (hi : i < n) (hn : n < 2147483648) (hq : Q (.inl (some (.int (nI i)))) M t u) : mMet G d zJ21_checkIndex [.int (nI i), .int (nI n), v] M t u Q := by
  rcases hv with rfl | ⟨a, rfl⟩
  · refine m_intro (by decide +kernel) ⟨Nat.le_of_ble_eq_true rfl, Nat.le_of_ble_eq_true rfl⟩ ?_
    show mW G _ _ 0 [some (.int (nI i)), some (.int (nI n)), some (.null)] [] _ _ _ _
    refine r_iload_n dJ21_checkIndex_0 rfl ?_
    refine r_if_lt_n (tgt := 9) dJ21_checkIndex_1 (by decide) (by omega) ?_
    refine r_iload_n dJ21_checkIndex_4 rfl ?_
    refine r_iload_n dJ21_checkIndex_5 rfl ?_
    first | refine r_icmp_lt_n (tgt := 16) dJ21_checkIndex_6 (by decide) (by omega) (by omega) (fun h6 => ?_) (fun h6 => by exfalso; omega) | refine r_icmp_lt (tgt := 16) dJ21_checkIndex_6 (by decide) (fun h6 => ?_) (fun h6 => by exfalso; omega)
    refine r_iload_n dJ21_checkIndex_16 rfl ?_
    refine r_iret rfl (by first | rfl | exact bI_nar _ | exact (pk_charN (by first | assumption | omega)).1) dJ21_checkIndex_17 ?_
    exact hq
  · refine m_intro (by decide +kernel) ⟨Nat.le_of_ble_eq_true rfl, Nat.le_of_ble_eq_true rfl⟩ ?_
    show mW G _ _ 0 [some (.int (nI i)), some (.int (nI n)), some (.ref a)] [] _ _ _ _
    refine r_iload_n dJ21_checkIndex_0 rfl ?_
    refine r_if_lt_n (tgt := 9) dJ21_checkIndex_1 (by decide) (by omega) ?_
    refine r_iload_n dJ21_checkIndex_4 rfl ?_
    refine r_iload_n dJ21_checkIndex_5 rfl ?_
    first | refine r_icmp_lt_n (tgt := 16) dJ21_checkIndex_6 (by decide) (by omega) (by omega) (fun h6 => ?_) (fun h6 => by exfalso; omega) | refine r_icmp_lt (tgt := 16) dJ21_checkIndex_6 (by decide) (fun h6 => ?_) (fun h6 => by exfalso; omega)
    refine r_iload_n dJ21_checkIndex_16 rfl ?_
    refine r_iret rfl (by first | rfl | exact bI_nar _ | exact (pk_charN (by first | assumption | omega)).1) dJ21_checkIndex_17 ?_
    exact hq
theorem j_checkS (i n : Nat) (hi : i < n) (hn : n < 2147483648) (hq : Q (.inl none) M t u) : mMet G (d + 1) zJ4_checkIndex [.int (nI i), .int (nI n)] M t u Q := by
  refine m_intro (by decide +kernel) ⟨Nat.le_of_ble_eq_true rfl, Nat.le_of_ble_eq_true rfl⟩ ?_
  show mW G _ _ 0 [some (.int (nI i)), some (.int (nI n))] [] _ _ _ _
  refine r_iload_n dJ4_checkIndex_0 rfl ?_
  refine r_iload_n dJ4_checkIndex_1 rfl ?_
  refine r_getsK kSio q783 dJ4_checkIndex_2 (fun v hv => ?_)
  rcases hv with rfl | ⟨a, rfl⟩
  · refine r_callS s_J4_1059_s dJ4_checkIndex_5 (by rfl) rfl (Nat.le_of_ble_eq_true rfl) (j_checkP _ (Or.inl rfl) i n hi hn ?_)
    refine mK_r ?_
    refine r_pop dJ4_checkIndex_8 (by rfl) ?_
    refine r_vret rfl dJ4_checkIndex_9 ?_
    exact hq
  · refine r_callS s_J4_1059_s dJ4_checkIndex_5 (by rfl) rfl (Nat.le_of_ble_eq_true rfl) (j_checkP _ (Or.inr ⟨_, rfl⟩) i n hi hn ?_)
    refine mK_r ?_
    refine r_pop dJ4_checkIndex_8 (by rfl) ?_
    refine r_vret rfl dJ4_checkIndex_9 ?_
    exact hq
theorem chS_ok : ∀ i, i < 10 → ((litB.getD i 0 &&& nI 255).toUInt32 % 65536).toInt32 = nI (chS i) := by decide +kernel
theorem chS_lt : ∀ i, i < 10 → chS i < 128 := by decide
theorem j_latinCharAt (h : mLit G litB a b) (i : Nat) (hi : i < 10) (hq : Q (.inl (some (.int (nI (chS i))))) M t u) : mMet G (d + 2) zJ22_charAt [.ref b, .int (nI i)] M t u Q := by
  refine m_intro (by decide +kernel) ⟨Nat.le_of_ble_eq_true rfl, Nat.le_of_ble_eq_true rfl⟩ ?_
  show mW G _ _ 0 [some (.ref b), some (.int (nI i))] [] _ _ _ _
  have hc := chS_lt i hi
  refine r_iload_n dJ22_charAt_0 rfl ?_
  first | refine r_aload_n dJ22_charAt_1 rfl ?_ | refine r_aload_nq dJ22_charAt_1 rfl ?_ | refine r_aload_nN dJ22_charAt_1 rfl ?_
  refine r_tabN h.tab dJ22_charAt_2 ?_
  refine r_callS s_J22_9_s dJ22_charAt_3 (by rfl) rfl (Nat.le_of_ble_eq_true rfl) (j_checkS i 10 hi (by decide) ?_)
  refine mK_v ?_
  first | refine r_aload_n dJ22_charAt_6 rfl ?_ | refine r_aload_nq dJ22_charAt_6 rfl ?_ | refine r_aload_nN dJ22_charAt_6 rfl ?_
  refine r_iload_n dJ22_charAt_7 rfl ?_
  refine r_tabB h.tab hi (by decide) dJ22_charAt_8 ?_
  refine r_sipush (v := nI 255) dJ22_charAt_9 (by decide) ?_
  refine r_iand dJ22_charAt_12 ?_
  refine r_i2c dJ22_charAt_13 ?_
  rw [chS_ok i hi]
  refine r_iret rfl (by first | rfl | exact bI_nar _ | exact (pk_charN (by first | assumption | omega)).1) dJ22_charAt_14 ?_
  exact hq
theorem j_charAtL (h : mLit G litB a b) (i : Nat) (hi : i < 10) (hq : Q (.inl (some (.int (nI (chS i))))) M t u) : mMet G (d + 3) zJ4_charAt [.ref a, .int (nI i)] M t u Q := by
  refine m_intro (by decide +kernel) ⟨Nat.le_of_ble_eq_true rfl, Nat.le_of_ble_eq_true rfl⟩ ?_
  show mW G _ _ 0 [some (.ref a), some (.int (nI i))] [] _ _ _ _
  have hc := chS_lt i hi
  first | refine r_aload_n dJ4_charAt_0 rfl ?_ | refine r_aload_nq dJ4_charAt_0 rfl ?_ | refine r_aload_nN dJ4_charAt_0 rfl ?_
  refine r_callLit s_J4_492_v dJ4_charAt_1 h (by rfl) rfl (Nat.le_of_ble_eq_true rfl) (j_isLatin1L h ?_)
  refine mK_r ?_
  refine r_if_eq_b (tgt := 16) dJ4_charAt_4 (by decide) (fun h4 => absurd h4 (by decide)) (fun h4 => ?_)
  first | refine r_aload_n dJ4_charAt_7 rfl ?_ | refine r_aload_nq dJ4_charAt_7 rfl ?_ | refine r_aload_nN dJ4_charAt_7 rfl ?_
  refine r_getValue h q935 dJ4_charAt_8 ?_
  refine r_iload_n dJ4_charAt_11 rfl ?_
  refine r_callS s_J4_495_s dJ4_charAt_12 (by rfl) rfl (Nat.le_of_ble_eq_true rfl) (j_latinCharAt h i hi ?_)
  refine mK_r ?_
  refine r_iret rfl (by first | rfl | exact bI_nar _ | exact (pk_charN (by first | assumption | omega)).1) dJ4_charAt_15 ?_
  exact hq
end STR
