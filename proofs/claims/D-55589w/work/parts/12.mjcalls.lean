/-! ===== mj: the calls ===== -/
/-- what the tables say of a method that is called -/
def mSz (z : mY) (n : Nat) : Prop := Cond.initialized (mYn z).cls ∈ lw_all ∧ mCd z ∈ lw_all ∧ ((mYn z).cls ≠ "java/lang/invoke/MethodHandle" ∧ (mYn z).cls ≠ "java/lang/invoke/VarHandle") ∧ (parseMethodDescriptor (mYn z).desc).map (fun d => d.parameters.length) = some n ∧ mYl z ≤ 45
/-- a call through an object of the class that declares the method -/
def mSV (own : String) (idx : Nat) (z : mY) (ci n : Nat) : Prop := mSz z n ∧ (Cond.methodLink own idx (mYn z) ∈ lw_all ∨ ((mYh z).isEmpty = true ∧ ∃ host, Cond.methodLinkNest own idx (mYn z) host ∈ lw_tbl)) ∧ Cond.instanceMethod (mYn z) ∈ lw_all ∧ Cond.selects (mYn z).cls (mYn z) (mYn z) ∈ lw_all ∧ ∃ (T : u_T) (N : Nat), mCl[ci]? = some ((mYn z).cls, T, N)
def mSS (own : String) (idx : Nat) (z : mY) (n : Nat) : Prop := mSz z n ∧ (Cond.methodLink own idx (mYn z) ∈ lw_all ∨ ((mYh z).isEmpty = true ∧ ∃ host, Cond.methodLinkNest own idx (mYn z) host ∈ lw_tbl)) ∧ Cond.static (mYn z) ∈ lw_all
def mSI (own : String) (idx : Nat) (z : mY) (n : Nat) : Prop := mSz z n ∧ (Cond.methodLink own idx (mYn z) ∈ lw_all ∨ ∃ host, Cond.methodLinkNest own idx (mYn z) host ∈ lw_tbl) ∧ Cond.instanceMethod (mYn z) ∈ lw_all ∧ (mYn z).name = "<init>" ∧ (mYh z).isEmpty = true ∧ mYr z = none
section MCALL
variable {G : mG} {y z : mY} {d pc : Nat} {L : List (Option Value)} {st rest : List Value} {M : mM} {t u : Nat} {Q : mQt} {idx b ci n : Nat} {fs As : List Value}
theorem mCd_code (h : (mYh z).isEmpty = true) : mCd z = Cond.code (mYn z) (mYc z) (mYl z) (mYr z) := by simp [mCd, h]
theorem mCd_codeWith (h : ¬ (mYh z).isEmpty = true) : mCd z = Cond.codeWith (mYn z) (mYc z) (mYl z) (mYr z) (mYh z) := by simp [mCd, h]
theorem mSz.len (h : mSz z n) (hn : As.length = n) : ∀ sig, parseMethodDescriptor (mYn z).desc = some sig → As.length = sig.parameters.length := by
  intro sig hs
  have h2 := h.2.2.2.1
  rw [hs] at h2
  exact hn.trans (Option.some.inj h2).symm
theorem mRecv {H : Heap} (hR : mRep G M t u H) (hM : M b = some (.inr (ci, fs))) {r : vw_C} (hc : mCl[ci]? = some r) {p : Program} {e : Env} {R : Room} {s : State} {m : MethodId} {args : Array Value} {below : List Frame} {meth : Method} {c : Code} (C : mCtx G y d p e R s m args below meth c) :
    ∃ cell : Cell, H[b]? = some cell ∧ cell.vm = .none ∧ s.vm.findClass r.1 = some cell.cls := by
  obtain ⟨r', h1, ⟨cell, h2, h3, h4, -⟩, -⟩ := hR.at hM
  have h1' : mCl[ci]? = some r' := h1
  cases h1'.symm.trans hc
  exact ⟨cell, h2, h4, by rw [h3]; exact (C.cls hc).2.1⟩
theorem m_pre {H : Heap} {T : State} {locs : List Loc} {p : Program} {e : Env} {R : Room} {s : State} {m : MethodId} {args : Array Value} {below : List Frame} {meth : Method} {c : Code} (C : mCtx G y (d + 1) p e R s m args below meth c) (hT : T.heap = H) (hR : mRep G M t u H) (hg1 : s.heap.size ≤ H.size) (hg2 : slotSum s.heap ≤ slotSum H) :
    ∀ vm₁, s.WarmedH vm₁ → PreOf R (mGT G - t) (mGU G - u) (mPc G As M t u) ⟨T.setVm vm₁, locs, t - s.heap.size, u - slotSum s.heap⟩ As.toArray := by
  intro vm₁ hW
  have h1 := hR.1
  have h2 := hR.2.1
  have h3 := hR.2.2.1
  have h4 := hR.2.2.2.1
  refine ⟨?_, ?_, rfl, State.WarmedH.trans C.warm hW, by show mRep G M t u T.heap; rw [hT]; exact hR⟩
  · rw [C.room]
    show t - s.heap.size + (mGT G - t) ≤ mGT G - s.heap.size
    omega
  · rw [C.room]
    show u - slotSum s.heap + (mGU G - u) ≤ mGU G - slotSum s.heap
    omega
theorem m_bk {p : Program} {e : Env} {R : Room} {s : State} {m : MethodId} {args : Array Value} {below : List Frame} {meth : Method} {c : Code} (C : mCtx G y (d + 1) p e R s m args below meth c) (hz : mSz z n) {Q' : mQt} (k : mMet G d z As M t u Q') :
    vx_Back (mGl G) R p e below s args (mYn z) 3 8 (PreOf R (mGT G - t) (mGU G - u) (mPc G As M t u)) (mPost G Q') (mPostX G Q') := by
  refine m_back k C.kn (fun a' U hW => mWord (State.WarmedH.trans C.warm hW) C.kn hz.2.1 a') (fun a' U hW => mWord (State.WarmedH.trans C.warm hW) C.kn hz.1 a') ?_ ?_
  · rw [C.room]
    show 24 + d + 1 ≤ 24 + (d + 1)
    omega
  · have := hz.2.2.2.2
    rw [C.room]
    show 8 + (mYl z + 11) + (400 + 64 * d) ≤ 400 + 64 * (d + 1)
    omega
theorem r_callV (hs : mSV (mYn y).cls idx z ci n) (hd : decode (mYc y) pc = .ok (.invokevirtual idx, 3)) (hM : M b = some (.inr (ci, fs))) (hst : st = As.reverse ++ .ref b :: rest) (hn : As.length = n) (hr : (rest.map fun v => v.category).sum ≤ 8) (k : mMet G d z (.ref b :: As) M t u (mK G y (d + 1) pc (pc + 3) L rest Q)) : mW G y (d + 1) pc L st M t u Q := by
  subst hst
  intro p e R s m args below meth c C H locs ls cells slots hR hl hL
  refine mGrown fun hg1 hg2 => mTight hR.1 hR.2.1 ?_
  intro T hT X
  obtain ⟨hz, hlink, hinst, hsel, T0, N0, hcl⟩ := hs
  obtain ⟨cell, q1, q2, q3⟩ := mRecv hR hM hcl C
  have hK := m_bk C hz k
  have hcode := C.ts hz.2.1
  have hdg : decode c.code (F0 m pc ls (As.reverse ++ .ref b :: rest)).pc = .ok (.invokevirtual idx, 3) := by rw [C.hb]; exact hd
  by_cases he : (mYh z).isEmpty = true
  · rw [mCd_code he] at hcode
    rcases hlink with h | ⟨-, host, h⟩
    · exact m_after C hl hL (vx_callV X C.hx C.own (C.ts h) (C.ts hinst) (C.ts hsel) hcode hz.2.2.1 hK (by rw [hT]; exact q1) (by rw [q2]; rfl) q3 (g := F0 m pc ls (As.reverse ++ .ref b :: rest)) rfl (by rw [C.ml]; exact hL.sz) (hz.len hn) rfl (lv_room hr) hdg (m_pre C hT hR hg1 hg2))
    · exact m_after C hl hL (vx_callVN X C.hx C.own (C.methN h) (C.ts hinst) (C.ts hsel) hcode hz.2.2.1 hK (by rw [hT]; exact q1) (by rw [q2]; rfl) q3 (g := F0 m pc ls (As.reverse ++ .ref b :: rest)) rfl (by rw [C.ml]; exact hL.sz) (hz.len hn) rfl (lv_room hr) hdg (m_pre C hT hR hg1 hg2))
  · rw [mCd_codeWith he] at hcode
    rcases hlink with h | ⟨h, -⟩
    · exact m_after C hl hL (vx_callVX X C.hx C.own (C.ts h) (C.ts hinst) (C.ts hsel) hcode hz.2.2.1 hK (by rw [hT]; exact q1) (by rw [q2]; rfl) q3 (g := F0 m pc ls (As.reverse ++ .ref b :: rest)) rfl (by rw [C.ml]; exact hL.sz) (hz.len hn) rfl (lv_room hr) hdg (m_pre C hT hR hg1 hg2))
    · exact absurd h he
theorem r_callS (hs : mSS (mYn y).cls idx z n) (hd : decode (mYc y) pc = .ok (.invokestatic idx, 3)) (hst : st = As.reverse ++ rest) (hn : As.length = n) (hr : (rest.map fun v => v.category).sum ≤ 8) (k : mMet G d z As M t u (mK G y (d + 1) pc (pc + 3) L rest Q)) : mW G y (d + 1) pc L st M t u Q := by
  subst hst
  intro p e R s m args below meth c C H locs ls cells slots hR hl hL
  refine mGrown fun hg1 hg2 => mTight hR.1 hR.2.1 ?_
  intro T hT X
  obtain ⟨hz, hlink, hstat⟩ := hs
  have hK := m_bk C hz k
  have hcode := C.ts hz.2.1
  have hdg : decode c.code (F0 m pc ls (As.reverse ++ rest)).pc = .ok (.invokestatic idx, 3) := by rw [C.hb]; exact hd
  by_cases he : (mYh z).isEmpty = true
  · rw [mCd_code he] at hcode
    rcases hlink with h | ⟨-, host, h⟩
    · exact m_after C hl hL (vx_callS X C.hx C.own (C.ts h) (C.ts hstat) (C.ts hz.1) hcode hz.2.2.1 hK (g := F0 m pc ls (As.reverse ++ rest)) rfl (by rw [C.ml]; exact hL.sz) (hz.len hn) rfl (lv_room hr) hdg (m_pre C hT hR hg1 hg2))
    · exact m_after C hl hL (vx_callSN X C.hx C.own (C.methN h) (C.ts hstat) (C.ts hz.1) hcode hz.2.2.1 hK (g := F0 m pc ls (As.reverse ++ rest)) rfl (by rw [C.ml]; exact hL.sz) (hz.len hn) rfl (lv_room hr) hdg (m_pre C hT hR hg1 hg2))
  · rw [mCd_codeWith he] at hcode
    rcases hlink with h | ⟨h, -⟩
    · exact m_after C hl hL (vx_callSX X C.hx C.own (C.ts h) (C.ts hstat) (C.ts hz.1) hcode hz.2.2.1 hK (g := F0 m pc ls (As.reverse ++ rest)) rfl (by rw [C.ml]; exact hL.sz) (hz.len hn) rfl (lv_room hr) hdg (m_pre C hT hR hg1 hg2))
    · exact absurd h he
theorem r_callI (hs : mSI (mYn y).cls idx z n) (hd : decode (mYc y) pc = .ok (.invokespecial idx, 3)) (hst : st = As.reverse ++ .ref b :: rest) (hn : As.length = n) (hr : (rest.map fun v => v.category).sum ≤ 8) (k : mMet G d z (.ref b :: As) M t u (mK G y (d + 1) pc (pc + 3) L rest Q)) : mW G y (d + 1) pc L st M t u Q := by
  subst hst
  intro p e R s m args below meth c C H locs ls cells slots hR hl hL
  refine mGrown fun hg1 hg2 => mTight hR.1 hR.2.1 ?_
  intro T hT X
  obtain ⟨hz, hlink, hinst, hnm, he, hret⟩ := hs
  have hK := m_bk C hz k
  have hcode := C.ts hz.2.1
  have hdg : decode c.code (F0 m pc ls (As.reverse ++ .ref b :: rest)).pc = .ok (.invokespecial idx, 3) := by rw [C.hb]; exact hd
  rw [mCd_code he, hret] at hcode
  rcases hlink with h | ⟨host, h⟩
  · exact m_after C hl hL (vx_callI X C.hx C.own hnm (C.ts h) (C.ts hinst) hcode hz.2.2.1 hK (g := F0 m pc ls (As.reverse ++ .ref b :: rest)) rfl (by rw [C.ml]; exact hL.sz) (hz.len hn) rfl (lv_room hr) hdg (m_pre C hT hR hg1 hg2))
  · exact m_after C hl hL (vx_callIN X C.hx C.own hnm (C.methN h) (C.ts hinst) hcode hz.2.2.1 hK (g := F0 m pc ls (As.reverse ++ .ref b :: rest)) rfl (by rw [C.ml]; exact hL.sz) (hz.len hn) rfl (lv_room hr) hdg (m_pre C hT hR hg1 hg2))
/-- Object's constructor -/
theorem r_objI (hl : Cond.methodLink (mYn y).cls idx Lib.objectInit ∈ lw_all) (hi : Cond.instanceMethod Lib.objectInit ∈ lw_all) (hc : Cond.code Lib.objectInit ⟨#[0xb1]⟩ 1 none ∈ lw_all) (hd : decode (mYc y) pc = .ok (.invokespecial idx, 3)) (hr : (rest.map fun v => v.category).sum ≤ 8) (k : mW G y d (pc + 3) L rest M t u Q) : mW G y d pc L (.ref b :: rest) M t u Q := by
  intro p e R s m args below meth c C H locs ls cells slots hR hlo hL
  refine W.objInit (g := F0 m pc ls (.ref b :: rest)) C.hx C.hb C.own (C.ts hl) (C.ts hi) (C.ts hc) rfl (by rw [C.ml]; exact hL.sz) rfl hd ?_ ?_ (k p e R s m args below meth c C H locs ls cells slots hR hlo hL)
  · rw [C.room]; show 1 ≤ 24 + d; omega
  · have h9 : 2 * (F0 m pc ls (.ref b :: rest)).monitorRoom + (rest.map fun v => v.category).sum ≤ 8 := lv_room hr
    rw [C.room]
    show 2 * (F0 m pc ls (.ref b :: rest)).monitorRoom + (rest.map fun v => v.category).sum + 12 ≤ 400 + 64 * d
    omega
/-! returns -/
theorem mEndN {y : mY} {Q : mQt} {s : State} {args : Array Value} {below : List Frame} {v : Option Value} {H : Heap} (hq : Q (.inl v) M t u) (hR : mRep G M t u H) {locs : List Loc} (hl : ∀ z ∈ locs, mGb G ≤ z.base) {st : State} (a : State) :
    MQ below (fun _ _ o t' => ∃ (v : Option Value) (M : mM) (t1 u1 : Nat), o = .returned v ∧ Q (.inl v) M t1 u1 ∧ mRep G M t1 u1 t'.heap) args s (mGT G - s.heap.size) (mGU G - slotSum s.heap) (fun q => mGb G ≤ q) a → mMQ G below Q s a := by
  rintro ⟨o, h1, h2, ⟨v, M', t', u', rfl, h3, h4⟩, L, h5, h6⟩
  exact ⟨_, h1, h2, Or.inl ⟨v, M', t', u', rfl, h3, h4, L, h5, h6⟩⟩
theorem mRet {p : Program} {e : Env} {R : Room} {s : State} {m : MethodId} {args : Array Value} {below : List Frame} {meth : Method} {c : Code} {H : Heap} {locs : List Loc} {cells slots : Nat} {g : JFrame} (C : mCtx G y d p e R s m args below meth c) (hR : mRep G M t u H)
    (k : W p (mGl G) e R s m args below meth c H locs (mGT G - s.heap.size) (mGU G - slotSum s.heap) (MQ below (fun _ _ o t' => ∃ (v : Option Value) (M : mM) (t1 u1 : Nat), o = .returned v ∧ Q (.inl v) M t1 u1 ∧ mRep G M t1 u1 t'.heap) args s (mGT G - s.heap.size) (mGU G - slotSum s.heap) (fun q => mGb G ≤ q)) g) :
    W p (mGl G) e R s m args below meth c H locs cells slots (mMQ G below Q s) g := by
  refine mTight hR.1 hR.2.1 ?_
  have h3 := hR.2.2.1
  have h4 := hR.2.2.2.1
  refine W.widen (k := mGT G - s.heap.size) (n := mGU G - slotSum s.heap) (by omega) (by omega) ?_
  intro T hT X
  obtain ⟨a, h1, o, g1, g2, ⟨v, M', t', u', rfl, g3, g4⟩, L, g5, g6⟩ := k T hT X
  exact ⟨a, h1, _, g1, g2, Or.inl ⟨v, M', t', u', rfl, g3, g4, L, g5, g6⟩⟩
theorem r_iret {v : Int32} {ty : FieldType} (hr : mYr y = some ty) (hn : narrow ty (.int v) = .int v) (hd : decode (mYc y) pc = .ok (.ireturn, 1)) (hq : Q (.inl (some (.int v))) M t u) : mW G y d pc L [.int v] M t u Q := by
  intro p e R s m args below meth c C H locs ls cells slots hR hl hL
  exact mRet C hR (W.zret (v := v) C.hx C.hb (C.hr.trans hr) hn (fun t' ht _ => ⟨_, M, t, u, rfl, hq, by rw [ht]; exact hR⟩) hl hd C.lk)
theorem r_fret {v : UInt32} (hr : mYr y = some .float) (hd : decode (mYc y) pc = .ok (.freturn, 1)) (hq : Q (.inl (some (.float v))) M t u) : mW G y d pc L [.float v] M t u Q := by
  intro p e R s m args below meth c C H locs ls cells slots hR hl hL
  exact mRet C hR (W.fret (v := v) C.hx C.hb (C.hr.trans hr) (fun t' ht _ => ⟨_, M, t, u, rfl, hq, by rw [ht]; exact hR⟩) hl hd C.lk)
theorem r_dret {v : UInt64} (hr : mYr y = some .double) (hd : decode (mYc y) pc = .ok (.dreturn, 1)) (hq : Q (.inl (some (.double v))) M t u) : mW G y d pc L [.double v] M t u Q := by
  intro p e R s m args below meth c C H locs ls cells slots hR hl hL
  exact mRet C hR (W.dret (v := v) C.hx C.hb (C.hr.trans hr) (fun t' ht _ => ⟨_, M, t, u, rfl, hq, by rw [ht]; exact hR⟩) hl hd C.lk)
theorem r_vret (hr : mYr y = none) (hd : decode (mYc y) pc = .ok (.return_, 1)) (hq : Q (.inl none) M t u) : mW G y d pc L [] M t u Q := by
  intro p e R s m args below meth c C H locs ls cells slots hR hl hL
  exact mRet C hR (W.vret C.hx C.hb (C.hr.trans hr) (fun t' ht _ => ⟨_, M, t, u, rfl, hq, by rw [ht]; exact hR⟩) hl hd C.lk)
theorem r_aret {v : Value} {rt : FieldType} (hr : mYr y = some rt) (hrt : (∃ n, rt = .object n) ∨ ∃ t, rt = .array t) (hv : v = .null ∨ ∃ a, v = .ref a) (hd : decode (mYc y) pc = .ok (.areturn, 1)) (hq : Q (.inl (some v)) M t u) : mW G y d pc L [v] M t u Q := by
  intro p e R s m args below meth c C H locs ls cells slots hR hl hL
  exact mRet C hR (W.aret (v := v) C.hx C.hb (C.hr.trans hr) hrt hv (fun t' ht _ => ⟨_, M, t, u, rfl, hq, by rw [ht]; exact hR⟩) hl hd C.lk)
/-! exceptions -/
theorem r_athrow (hM : M b = some (.inr (ci, fs))) (hd : decode (mYc y) pc = .ok (.athrow, 1)) (k : mT G y d pc L M t u Q ci b) : mW G y d pc L (.ref b :: rest) M t u Q := by
  intro p e R s m args below meth c C H locs ls cells slots hR hl hL
  exact vx_athrow C.hx C.hb hd (k p e R s m args below meth c C H locs ls cells slots rest fs hR hl hL hM)
theorem mT_out (hc : ∃ r, mCl[ci]? = some r) (hout : ∀ x ∈ tableOf (mYh y), covers x pc = false) (hq : Q (.inr (ci, b)) M t u) : mT G y d pc L M t u Q ci b := by
  intro p e R s m args below meth c C H locs ls cells slots rest fs hR hl hL hM
  refine mGrownX fun hg1 hg2 => mTightX hR.1 hR.2.1 ?_
  obtain ⟨r, hc⟩ := hc
  obtain ⟨cell, q1, q2, q3⟩ := mRecv hR hM hc C
  intro T hT X
  obtain ⟨st1, hrun, hend, hW, hsm⟩ := X.leaveThrown b (g := F0 m pc ls rest) rfl rfl rfl (by rw [C.tab]; exact hout) C.lk
  have h3 := hR.2.2.1
  have h4 := hR.2.2.2.1
  exact ⟨_, st1, .threw b, hrun, hend, Or.inr ⟨b, ci, fs, M, t, u, locs, rfl, hq, hM, by show mRep G M t u T.heap; rw [hT]; exact hR, hW, hsm.mono (by omega) (by omega), hl⟩⟩
theorem mT_catch {nm : String} (hc : ∃ r, mCl[ci]? = some r) (pre : List ExceptionTableEntry) (x : ExceptionTableEntry) (suf : List ExceptionTableEntry) (hsplit : tableOf (mYh y) = pre ++ x :: suf) {r : vw_C} (hcl : mCl[ci]? = some r)
    (hpass : ∀ z ∈ pre, covers z pc = false ∨ (z.catchType ≠ 0 ∧ ∃ nm : String, Cond.classLink (mYn y).cls z.catchType nm ∈ lw_all ∧ (∀ (s : State), (mGs G).vm.Alike s.vm → mKn G → va_Nc r.1 nm s))) (hx : covers x pc = true) (h0 : x.catchType ≠ 0)
    (hlink : Cond.classLink (mYn y).cls x.catchType nm ∈ lw_all) (hcast : Cond.castable r.1 nm ∈ lw_tbl) (k : mW G y d x.handlerPc L [.ref b] M t u Q) : mT G y d pc L M t u Q ci b := by
  intro p e R s m args below meth c C H locs ls cells slots rest fs hR hl hL hM
  obtain ⟨cell, q1, q2, q3⟩ := mRecv hR hM hcl C
  refine vx_catch (E := r.1) C.own pre x suf (by rw [C.tab]; exact hsplit) (fun z hz => ?_) hx h0 (C.ts hlink) (va_Nw.use rfl (C.cast hcast)) q1 q2 q3 (k p e R s m args below meth c C H locs ls cells slots hR hl hL)
  rcases hpass z hz with h | ⟨h1, nm9, h2, h3⟩
  · exact Or.inl h
  · exact Or.inr ⟨h1, nm9, C.ts h2, h3 s C.warm.alike C.kn⟩
end MCALL
