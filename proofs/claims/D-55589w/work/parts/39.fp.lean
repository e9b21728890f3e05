/-! ===== floats that are no NaN and have no sign ===== -/
def fP (b : UInt32) : Prop := b.toNat ≤ 2139095040
def fQ (b : UInt32) : Prop := b.toNat < 2139095040
theorem fQ.p {b : UInt32} (h : fQ b) : fP b := Nat.le_of_lt h
theorem fP.n {b : UInt32} (h : fP b) : vf_n32 b := by
  unfold vf_n32
  rw [UInt32.le_iff_toNat_le, UInt32.toNat_and]
  exact Nat.le_trans Nat.and_le_left h
theorem fp_dec {n : Nat} (h : n ≤ 2139095040) : FP.Core.decode FP.Core.b32 n = .inf false ∨ ∃ c q, FP.Core.decode FP.Core.b32 n = .fin false c q := by
  have t1 : FP.Core.b32.tails = 8388608 := by decide
  have t2 : FP.Core.b32.exps = 256 := by decide
  have s : FP.Core.fieldS FP.Core.b32 n = false := by
    unfold FP.Core.fieldS
    rw [t1, t2]
    have : n / 8388608 / 256 % 2 = 0 := by omega
    rw [this]; rfl
  unfold FP.Core.decode
  rw [s]
  split
  · split
    · exact Or.inl rfl
    · rename_i h1 h2
      unfold FP.Core.fieldE at h1
      unfold FP.Core.fieldT at h2
      rw [t1] at h1 h2
      rw [t2] at h1
      exfalso; omega
  · split
    · exact Or.inr ⟨_, _, rfl⟩
    · exact Or.inr ⟨_, _, rfl⟩
theorem fp_decQ {n : Nat} (h : n < 2139095040) : ∃ c q, FP.Core.decode FP.Core.b32 n = .fin false c q := by
  have t1 : FP.Core.b32.tails = 8388608 := by decide
  have t2 : FP.Core.b32.exps = 256 := by decide
  have s : FP.Core.fieldS FP.Core.b32 n = false := by
    unfold FP.Core.fieldS
    rw [t1, t2]
    have : n / 8388608 / 256 % 2 = 0 := by omega
    rw [this]; rfl
  unfold FP.Core.decode
  rw [s]
  split
  · rename_i h1
    unfold FP.Core.fieldE at h1
    rw [t1, t2] at h1
    exfalso; omega
  · split
    · exact ⟨_, _, rfl⟩
    · exact ⟨_, _, rfl⟩
def fD (d : FP.Core.Datum) : Prop := d = .inf false ∨ ∃ c q, d = .fin false c q ∧ c < 16777216 ∧ q ≤ FP.Core.b32.qmax
theorem fD.enc {d : FP.Core.Datum} (h : fD d) : FP.Core.encode FP.Core.b32 d ≤ 2139095040 := by
  have t1 : FP.Core.b32.tails = 8388608 := by decide
  have t2 : FP.Core.b32.exps = 256 := by decide
  have t3 : FP.Core.b32.qmax = 104 := by decide
  have t4 : FP.Core.b32.qmin = -149 := by decide
  rcases h with rfl | ⟨c, q, rfl, hc, hq⟩
  · decide
  · unfold FP.Core.encode FP.Core.assemble
    rw [t1, t2, t4]
    rw [t3] at hq
    simp only [Bool.toNat_false]
    split
    · omega
    · have : (q - -149).toNat ≤ 253 := by omega
      omega
theorem fD_ratio (num den : Nat) (e : Int) : fD (FP.Core.roundRatio FP.Core.b32 false num den e) := by
  have t1 : FP.Core.b32.tails = 8388608 := by decide
  have t4 : FP.Core.b32.qmin = -149 := by decide
  have t3 : FP.Core.b32.qmax = 104 := by decide
  have tp : 2 ^ FP.Core.b32.p = 16777216 := by decide
  have bd : ∀ c q, c < 16777216 → fD (FP.Core.bound FP.Core.b32 false c q) := by
    intro c q hc
    unfold FP.Core.bound
    split
    · rename_i hq; exact Or.inr ⟨c, q, rfl, hc, hq⟩
    · exact Or.inl rfl
  unfold FP.Core.roundRatio
  split
  · exact Or.inr ⟨0, _, rfl, by decide, by rw [t3, t4]; decide⟩
  · unfold FP.Core.roundAt FP.Core.settle
    rw [tp]
    split
    · rename_i h; exact bd _ _ h
    · rw [t1]; exact bd _ _ (by decide)
theorem fP_of {d : FP.Core.Datum} (h : fD d) : fP (.ofNat (FP.Core.encode FP.Core.b32 d)) := by
  have := h.enc
  unfold fP
  rw [UInt32.toNat_ofNat']
  omega
theorem fP_add {a b : UInt32} (ha : fP a) (hb : fP b) : fP (FP.fadd a b) := by
  unfold FP.fadd FP.Core.fadd FP.Core.add
  refine fP_of ?_
  rcases fp_dec ha with h1 | ⟨c, q, h1⟩ <;> rcases fp_dec hb with h2 | ⟨c', q', h2⟩ <;> rw [h1, h2]
  · exact Or.inl rfl
  · exact Or.inl rfl
  · exact Or.inl rfl
  · unfold FP.Core.exactSum FP.Core.round FP.Core.sumSign
    have hn : ¬ FP.Core.sumUnits false c q false c' q' (min q q') < 0 := by
      unfold FP.Core.sumUnits FP.Core.signed
      simp only [Bool.false_eq_true, if_false]
      omega
    simp only [hn, decide_false, Bool.and_false, ite_self]
    exact fD_ratio _ _ _
theorem fP_mul {a b : UInt32} (ha : fQ a) (hb : fQ b) : fP (FP.fmul a b) := by
  unfold FP.fmul FP.Core.fmul FP.Core.mul
  refine fP_of ?_
  obtain ⟨c, q, h1⟩ := fp_decQ ha
  obtain ⟨c', q', h2⟩ := fp_decQ hb
  rw [h1, h2]
  exact fD_ratio _ _ _
/-- the rate of so many hundredths -/
def rtF (h : Nat) : UInt32 := FP.fdiv (FP.i2f (nI h)) 1120403456
theorem rtF_q0 : ∀ h, h < 101 → (rtF h).toNat < 2139095040 := by decide +kernel
theorem rtF_q {h : Nat} (hh : h < 101) : fQ (rtF h) := rtF_q0 h hh
theorem i2f_q0 : ∀ h, h < 101 → (FP.i2f (nI h)).toNat < 2139095040 := by decide +kernel
theorem i2f_q {h : Nat} (hh : h < 101) : fQ (FP.i2f (nI h)) := i2f_q0 h hh
theorem rtF_10 : rtF 10 = 1036831949 := by decide +kernel
theorem fc0 : fP FP.fconst0 := by unfold fP; decide
/-- the comparisons of such floats -/
theorem fcmp_sw (a b : UInt32) : FP.fcmp b a = (FP.fcmp a b).map Ordering.swap := by
  unfold FP.fcmp FP.Core.fcmp FP.Core.cmp
  have sw : ∀ x y : Int, compare y x = (compare x y).swap := fun x y => by
    rw [Int.compare_swap]
  cases FP.Core.decode FP.Core.b32 a.toNat <;> cases FP.Core.decode FP.Core.b32 b.toNat <;> unfold FP.Core.order <;> first | rfl | (simp only [Option.map]; rw [sw]; done) | (rename_i s1 c1 q1 s2 c2 q2; simp only [Option.map]; rw [Int.min_comm q2 q1, sw])
theorem fcmp_so {a b : UInt32} (ha : fP a) (hb : fP b) : ∃ o, FP.fcmp a b = some o := by
  unfold FP.fcmp FP.Core.fcmp FP.Core.cmp
  rcases fp_dec ha with h1 | ⟨c, q, h1⟩ <;> rcases fp_dec hb with h2 | ⟨c', q', h2⟩ <;> rw [h1, h2] <;> exact ⟨_, rfl⟩
theorem fcmp_re {a : UInt32} (ha : fP a) : FP.fcmp a a = some .eq := by
  unfold FP.fcmp FP.Core.fcmp FP.Core.cmp
  rcases fp_dec ha with h1 | ⟨c, q, h1⟩ <;> rw [h1] <;> unfold FP.Core.order <;> simp
theorem fcmp_m1 {a : UInt32} (ha : fP a) : FP.fcmp a 3212836864 = some .gt := by
  have e : FP.Core.decode FP.Core.b32 (3212836864 : UInt32).toNat = .fin true 8388608 (-23) := by decide
  unfold FP.fcmp FP.Core.fcmp FP.Core.cmp
  rw [e]
  rcases fp_dec ha with h1 | ⟨c, q, h1⟩ <;> rw [h1] <;> unfold FP.Core.order
  · rfl
  · have h : 0 < FP.Core.inUnits 8388608 (-23) (min q (-23)) := Nat.mul_pos (by decide) (Nat.pow_pos (by decide))
    have e : compare (FP.Core.signed false (FP.Core.inUnits c q (min q (-23)))) (FP.Core.signed true (FP.Core.inUnits 8388608 (-23) (min q (-23)))) = .gt := by
      rw [Int.compare_eq_gt]
      unfold FP.Core.signed
      simp only [Bool.false_eq_true, if_false, if_true]
      omega
    exact congrArg some e
/-- the mean of whole numbers -/
def dQ (b : UInt64) : Prop := ∃ c q, FP.Core.decode FP.Core.b64 b.toNat = .fin false c q
theorem dn_of {num den : Nat} {e : Int} : vf_n64 (.ofNat (FP.Core.encode FP.Core.b64 (FP.Core.roundRatio FP.Core.b64 false num den e))) := by
  have t1 : FP.Core.b64.tails = 4503599627370496 := by decide
  have t2 : FP.Core.b64.exps = 2048 := by decide
  have t4 : FP.Core.b64.qmin = -1074 := by decide
  have t3 : FP.Core.b64.qmax = 971 := by decide
  have tp : 2 ^ FP.Core.b64.p = 9007199254740992 := by decide
  have key : ∀ d : FP.Core.Datum, (d = .inf false ∨ ∃ c q, d = .fin false c q ∧ c < 9007199254740992 ∧ q ≤ FP.Core.b64.qmax) → FP.Core.encode FP.Core.b64 d ≤ 9218868437227405312 := by
    intro d h
    rcases h with rfl | ⟨c, q, rfl, hc, hq⟩
    · decide
    · unfold FP.Core.encode FP.Core.assemble
      rw [t1, t2, t4]
      rw [t3] at hq
      simp only [Bool.toNat_false]
      split
      · omega
      · have : (q - -1074).toNat ≤ 2045 := by omega
        omega
  have bd : ∀ c q, c < 9007199254740992 → (FP.Core.bound FP.Core.b64 false c q = .inf false ∨ ∃ c' q', FP.Core.bound FP.Core.b64 false c q = .fin false c' q' ∧ c' < 9007199254740992 ∧ q' ≤ FP.Core.b64.qmax) := by
    intro c q hc
    unfold FP.Core.bound
    split
    · rename_i hq; exact Or.inr ⟨c, q, rfl, hc, hq⟩
    · exact Or.inl rfl
  have hh : FP.Core.encode FP.Core.b64 (FP.Core.roundRatio FP.Core.b64 false num den e) ≤ 9218868437227405312 := by
    refine key _ ?_
    unfold FP.Core.roundRatio
    split
    · exact Or.inr ⟨0, _, rfl, by decide, by rw [t3, t4]; decide⟩
    · unfold FP.Core.roundAt FP.Core.settle
      rw [tp]
      split
      · rename_i h; exact bd _ _ h
      · rw [t1]; exact bd _ _ (by decide)
  unfold vf_n64
  rw [UInt64.le_iff_toNat_le, UInt64.toNat_and, UInt64.toNat_ofNat']
  refine Nat.le_trans Nat.and_le_left ?_
  exact Nat.le_trans (Nat.mod_le _ _) hh
def isFin64 (k : Nat) : Bool := match FP.Core.decode FP.Core.b64 (FP.i2d (nI k)).toNat with
  | .fin false c _ => (c != 0) || (k == 0)
  | _ => false
theorem isFin64_t : ∀ k, k < 800 → isFin64 k = true := by decide +kernel
theorem dn_mean {a b : Nat} (ha : a < 800) (hb : b < 800) (h0 : 0 < b) : vf_n64 (FP.ddiv (FP.i2d (nI a)) (FP.i2d (nI b))) := by
  have h1 := isFin64_t a ha
  have h2 := isFin64_t b hb
  unfold isFin64 at h1 h2
  unfold FP.ddiv FP.Core.ddiv FP.Core.div
  generalize FP.Core.decode FP.Core.b64 (FP.i2d (nI a)).toNat = d1 at *
  generalize FP.Core.decode FP.Core.b64 (FP.i2d (nI b)).toNat = d2 at *
  match d1, d2, h1, h2 with
  | .fin false c q, .fin false c' q', h1, h2 =>
    have hb' : (b == 0) = false := by simp; omega
    simp only [hb', Bool.or_false, bne_iff_ne, ne_eq] at h2
    unfold FP.Core.quotient
    simp only [h2, if_false]
    exact dn_of
section FPW
variable {G : mG} {y : mY} {d pc : Nat} {L : List (Option Value)} {st : List Value} {M : mM} {t u : Nat} {Q : mQt}
theorem r_f2i {i : Nat} {b : UInt32} (hw : Cond.methodLink (mYn y).cls i ⟨"java/lang/Float", "floatToRawIntBits", "(F)I"⟩ ∈ lw_all) (hr : (st.map fun v => v.category).sum ≤ 8) (hd : decode (mYc y) pc = .ok (.invokestatic i, 3)) (k : mW G y d (pc + 3) L (.int b.toInt32 :: st) M t u Q) : mW G y d pc L (.float b :: st) M t u Q := by
  intro p e R s m args below meth c C H locs ls cells slots hR hl hL
  exact vn_f2i C.hx C.hb (by rw [C.ml]; exact hL.sz.symm) C.own (C.ts hw) (C.ts q1383) (C.ts q1382) (C.ts q109) (by rw [C.room]; show 1 ≤ 24 + d; omega) (by rw [C.room]; show _ ≤ 400 + 64 * d; omega) hd (k p e R s m args below meth c C H locs ls cells slots hR hl hL)
theorem cv_ne {a b : UInt32} {op : CmpOp} {o : Ordering} (h : FP.fcmp a b = some o) : Op.cmpValue (FP.fcmp a b) op = FP.cmpInt 0 (some o) := by
  rw [h]; cases o <;> rfl
/-- as m_intro, of a class in which some methods are run by the machine itself -/
theorem m_introF {G : mG} {y : mY} {d : Nat} {as : List Value} {M : mM} {t u : Nat} {Q : mQt} (hy : plainFor (mYn y) = true) (hn : (lg_sl as).length ≤ mYl y ∧ (mEn as).length ≤ mYl y) (k : mW G y d 0 (mEnt (mYl y) as) [] M t u Q) : mMet G d y as M t u Q := by
  intro hG
  refine MetFree.of_bodySF (code := mYc y) (maxLocals := mYl y) (ret := mYr y) hy ?_ ?_
  · intro args s m h hn
    obtain ⟨meth, c, h1, h2, h3, h4, h5, h6, -, -⟩ := mCd_spec hn (atoms_spec (ws := [mCd y]) h _ List.mem_cons_self)
    exact ⟨meth, c, h1, h2, h3, h4, h5, h6⟩
  · intro p e s m args below meth c s₁ B hml hP _
    have hh0 : s₁.heap = s.heap := by rw [B.state]; rfl
    obtain ⟨rfl, hW, hR⟩ := hP
    have X := Stand.of_body B
    obtain ⟨meth9, c9, g1, g2, g3, g4, g5, g6, g7, -⟩ := mCd_spec B.named (atoms_spec (ws := [mCd y]) B.pre _ List.mem_cons_self)
    cases Option.some.inj (g1.symm.trans B.method)
    cases Option.some.inj (g2.symm.trans X.code)
    have et : s.heap.size = t := hR.1
    have eu : slotSum s.heap = u := hR.2.1
    have hctx : mCtx G y d p e (mRoom G d s.heap.size (slotSum s.heap)) s m as.toArray below meth c :=
      ⟨B.exec, B.bytes, B.returns, B.notSynchronized, g4, findClass_of_methodNamed B.named, (name_of_methodNamed B.named B.method).1, g7, hW, rfl, by rw [et]; exact hR.2.2.2.2.1, hR.2.2.2.2.2.1, hG, by rw [et]; exact hR.2.2.1, by rw [eu]; exact hR.2.2.2.1⟩
    have hL := mL_entry hn.1 hn.2
    have X' : Stand p (mGl G) e (mRoom G d s.heap.size (slotSum s.heap)) s m as.toArray below meth c s₁ [] 0 0 := by rw [et, eu]; exact X
    have K := k p e _ s m _ below meth c hctx s.heap [] _ 0 0 hR (fun z h => by cases h) hL
    rw [← lg_entry_eq] at K
    obtain ⟨t', a1, o, b1, b2, b3⟩ := K s₁ hh0 X'
    rw [et, eu] at b3
    exact ⟨t', o, a1, b1, b2, b3⟩

theorem j_isNaN {b : UInt32} (hb : fP b) (hq : Q (.inl (some (.int (bI false)))) M t u) : mMet G d zJ18_isNaN [.float b] M t u Q := by
  refine m_introF (by decide +kernel) ⟨Nat.le_of_ble_eq_true rfl, Nat.le_of_ble_eq_true rfl⟩ ?_
  show mW G _ _ 0 [some (.float b)] [] _ _ _ _
  refine r_fload_n dJ18_isNaN_0 rfl ?_
  refine r_fload_n dJ18_isNaN_1 rfl ?_
  refine r_fcmp dJ18_isNaN_2 ?_
  rw [cv_ne (fcmp_re hb)]
  refine r_if_eq (tgt := 10) dJ18_isNaN_3 (by decide) (fun h => ?_) (fun h => absurd rfl h)
  refine r_iconst (v := nI 0) dJ18_isNaN_10 (by decide) ?_
  refine r_iret rfl (by first | rfl | exact bI_nar _) dJ18_isNaN_11 ?_
  exact hq
theorem j_bits {b : UInt32} (hb : fP b) (hq : Q (.inl (some (.int b.toInt32))) M t u) : mMet G (d + 1) zJ18_floatToIntBits [.float b] M t u Q := by
  refine m_introF (by decide +kernel) ⟨Nat.le_of_ble_eq_true rfl, Nat.le_of_ble_eq_true rfl⟩ ?_
  show mW G _ _ 0 [some (.float b)] [] _ _ _ _
  refine r_fload_n dJ18_floatToIntBits_0 rfl ?_
  refine r_callS s_J18_59_s dJ18_floatToIntBits_1 (by rfl) rfl (Nat.le_of_ble_eq_true rfl) (j_isNaN hb ?_)
  refine mK_r ?_
  refine r_if_ne_b (tgt := 12) dJ18_floatToIntBits_4 (by decide) (fun h4 => absurd h4 (by decide)) (fun h4 => ?_)
  refine r_fload_n dJ18_floatToIntBits_7 rfl ?_
  refine r_f2i q1381 (Nat.le_of_ble_eq_true rfl) dJ18_floatToIntBits_8 ?_
  refine r_iret rfl (by first | rfl | exact bI_nar _) dJ18_floatToIntBits_11 ?_
  exact hq
end FPW
