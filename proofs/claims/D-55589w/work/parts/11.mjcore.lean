/-! ===== mj: contracts and the walk ===== -/
def mRoom (G : mG) (d t u : Nat) : Room := { frames := 24 + d, cells := mGT G - t, slots := mGU G - u, locals := 400 + 64 * d }
def mNm : FieldType → String
  | .object C => C
  | ty => ty.toString
def mRA (U : State) (cA : ClassId) (ty : FieldType) : Prop := ArrOfT U cA ty ∧ U.vm.findClass ("[" ++ ty.toString) = some cA ∧ (ty.isReference = true → ∃ (kA : Class) (comp : ClassId), U.vm.classes[cA]? = some kA ∧ kA.kind = .array comp ty ∧ U.vm.findClass (mNm ty) = some comp)
theorem mRA.moved {u U : State} (hvm : u.vm.Alike U.vm) {cA : ClassId} {ty : FieldType} (h : mRA u cA ty) : mRA U cA ty := by
  obtain ⟨h1, h2, h3⟩ := h
  refine ⟨arrOfT_moved hvm h1, by rw [hvm.findClass]; exact h2, fun hr => ?_⟩
  obtain ⟨kA, comp, q1, q2, q3⟩ := h3 hr
  obtain ⟨k', hk', he⟩ := hvm.2.2 _ _ q1
  exact ⟨k', comp, hk', by rw [he]; exact q2, by rw [hvm.findClass]; exact q3⟩
/-- what is known of the tables at the start -/
def mKn (G : mG) : Prop := (∀ w ∈ lw_tbl, w.before (mGv G) (mGs G) = true) ∧ (mGl G).stackTraces = false ∧ (∀ (k : Nat) (q : vw_C), mCl[k]? = some q → u_Kn (mGs G) q.1 q.2.1 q.2.2 (mGc G k) (mGi G k)) ∧ (∀ (k : Nat) (ty : FieldType), mTy[k]? = some ty → mRA (mGs G) (mGa G k) ty) ∧ (Jvm.Cond.and given_1 narrow_1).before (mGv G) (mGs G) = true
/-- where a method's body stands -/
def mCtx (G : mG) (y : mY) (d : Nat) (p : Program) (e : Env) (R : Room) (s : State) (m : MethodId) (args : Array Value) (below : List Frame) (meth : Method) (c : Code) : Prop :=
  p.tables.exec = Jvm.exec ∧ c.code = mYc y ∧ meth.sig.returnType = mYr y ∧ meth.locks = false ∧ c.maxLocals = mYl y ∧ s.vm.findClass (mYn y).cls = some m.cls ∧ meth.name = (mYn y).name ∧ c.exceptionTable.toList = tableOf (mYh y) ∧ (mGs G).WarmedH s.vm ∧ R = mRoom G d s.heap.size (slotSum s.heap) ∧ mGb G ≤ s.heap.size ∧ (∀ q : Nat, q < mGb G → s.heap[q]? = (mGs G).heap[q]?) ∧ mKn G ∧ s.heap.size ≤ mGT G ∧ slotSum s.heap ≤ mGU G
section CTX
variable {G : mG} {y : mY} {d : Nat} {p : Program} {e : Env} {R : Room} {s : State} {m : MethodId} {args : Array Value} {below : List Frame} {meth : Method} {c : Code}
theorem mCtx.hx (C : mCtx G y d p e R s m args below meth c) : p.tables.exec = Jvm.exec := C.1
theorem mCtx.hb (C : mCtx G y d p e R s m args below meth c) : c.code = mYc y := C.2.1
theorem mCtx.hr (C : mCtx G y d p e R s m args below meth c) : meth.sig.returnType = mYr y := C.2.2.1
theorem mCtx.lk (C : mCtx G y d p e R s m args below meth c) : meth.locks = false := C.2.2.2.1
theorem mCtx.ml (C : mCtx G y d p e R s m args below meth c) : c.maxLocals = mYl y := C.2.2.2.2.1
theorem mCtx.own (C : mCtx G y d p e R s m args below meth c) : s.vm.findClass (mYn y).cls = some m.cls := C.2.2.2.2.2.1
theorem mCtx.nam (C : mCtx G y d p e R s m args below meth c) : meth.name = (mYn y).name := C.2.2.2.2.2.2.1
theorem mCtx.tab (C : mCtx G y d p e R s m args below meth c) : c.exceptionTable.toList = tableOf (mYh y) := C.2.2.2.2.2.2.2.1
theorem mCtx.warm (C : mCtx G y d p e R s m args below meth c) : (mGs G).WarmedH s.vm := C.2.2.2.2.2.2.2.2.1
theorem mCtx.room (C : mCtx G y d p e R s m args below meth c) : R = mRoom G d s.heap.size (slotSum s.heap) := C.2.2.2.2.2.2.2.2.2.1
theorem mCtx.ge (C : mCtx G y d p e R s m args below meth c) : mGb G ≤ s.heap.size := C.2.2.2.2.2.2.2.2.2.2.1
theorem mCtx.old (C : mCtx G y d p e R s m args below meth c) : ∀ q : Nat, q < mGb G → s.heap[q]? = (mGs G).heap[q]? := C.2.2.2.2.2.2.2.2.2.2.2.1
theorem mCtx.kn (C : mCtx G y d p e R s m args below meth c) : mKn G := C.2.2.2.2.2.2.2.2.2.2.2.2.1
theorem mCtx.leT (C : mCtx G y d p e R s m args below meth c) : s.heap.size ≤ mGT G := C.2.2.2.2.2.2.2.2.2.2.2.2.2.1
theorem mCtx.leU (C : mCtx G y d p e R s m args below meth c) : slotSum s.heap ≤ mGU G := C.2.2.2.2.2.2.2.2.2.2.2.2.2.2
theorem mWord (hW : (mGs G).WarmedH s.vm) (hG : mKn G) {w : Cond} (h : w ∈ lw_all) (a : Array Value) : w.before a s = true := word_at hW (good_of_word (List.mem_filter.mp h).2) (hG.1 w (lw_all_tbl h))
theorem mCtx.ts (C : mCtx G y d p e R s m args below meth c) {w : Cond} (h : w ∈ lw_all) : w.before args s = true := mWord C.warm C.kn h args
theorem mCtx.tz (C : mCtx G y d p e R s m args below meth c) : ∀ w ∈ lw_all, w.before args s = true := fun w h => C.ts h
theorem mCtx.fieldN (C : mCtx G y d p e R s m args below meth c) {a : String} {i : Nat} {b n ds h : String} (hw : Cond.fieldLinkNest a i b n ds h ∈ lw_tbl) : (Cond.fieldLinkNest a i b n ds h).before args s = true :=
  va_Nw.use rfl (va_Nw.warmF C.warm (va_Nw.of rfl (C.kn.1 _ hw)))
theorem mCtx.methN (C : mCtx G y d p e R s m args below meth c) {a : String} {i : Nat} {x : MethodName} {h : String} (hw : Cond.methodLinkNest a i x h ∈ lw_tbl) : (Cond.methodLinkNest a i x h).before args s = true :=
  va_Nw.use rfl (va_Nw.warmM C.warm (va_Nw.of rfl (C.kn.1 _ hw)))
theorem mCtx.cast (C : mCtx G y d p e R s m args below meth c) {a b : String} (hw : Cond.castable a b ∈ lw_tbl) : va_Nw (.castable a b) s := va_Nw.warmC C.warm (va_Nw.of rfl (C.kn.1 _ hw))
theorem mCtx.cls (C : mCtx G y d p e R s m args below meth c) {k : Nat} {q : vw_C} (h : mCl[k]? = some q) : u_Kn s q.1 q.2.1 q.2.2 (mGc G k) (mGi G k) := u_Kn_moved C.warm.alike (C.kn.2.2.1 k q h)
theorem mCtx.arr (C : mCtx G y d p e R s m args below meth c) {k : Nat} {ty : FieldType} (h : mTy[k]? = some ty) : mRA s (mGa G k) ty := (C.kn.2.2.2.1 k ty h).moved C.warm.alike
end CTX
/-- how a method ends -/
def mQQ (G : mG) (Q : mQt) (mc ms : Nat) : Array Value → State → Outcome → State → Prop := fun _ st o t =>
  (∃ (v : Option Value) (M : mM) (t' u' : Nat), o = .returned v ∧ Q (.inl v) M t' u' ∧ mRep G M t' u' t.heap ∧ ∃ L, FrameEnd st o t L mc ms ∧ ∀ q ∈ L, mGb G ≤ q.base) ∨
  (∃ (q ci : Nat) (fs : List Value) (M : mM) (t' u' : Nat) (L : List Loc), o = .threw q ∧ Q (.inr (ci, q)) M t' u' ∧ M q = some (.inr (ci, fs)) ∧ mRep G M t' u' t.heap ∧ st.WarmedH t.vm ∧ st.sameButNew ({ t with vm := st.vm } : State) L mc ms ∧ ∀ z ∈ L, mGb G ≤ z.base)
def mMQ (G : mG) (below : List Frame) (Q : mQt) (s : State) : State → Prop := fun t =>
  ∃ o, t.status = .running ∧ Ended t below o ∧ mQQ G Q (mGT G - s.heap.size) (mGU G - slotSum s.heap) #[] s o t
/-- the contract of a method, for one start -/
def mPc (G : mG) (as : List Value) (M : mM) (t u : Nat) : Array Value → State → Prop := fun a U => a = as.toArray ∧ (mGs G).WarmedH U.vm ∧ mRep G M t u U.heap
def mMet (G : mG) (d : Nat) (y : mY) (as : List Value) (M : mM) (t u : Nat) (Q : mQt) : Prop :=
  mKn G → MetFree (mGl G) (mYn y) (headSpec [mCd y] (mRoom G d t u)) (mPc G as M t u) (fun _ _ _ _ _ => True) (mQQ G Q (mGT G - t) (mGU G - u))
/-- the walk of a body -/
def mW (G : mG) (y : mY) (d : Nat) (pc : Nat) (L : List (Option Value)) (st : List Value) (M : mM) (t u : Nat) (Q : mQt) : Prop :=
  ∀ (p : Program) (e : Env) (R : Room) (s : State) (m : MethodId) (args : Array Value) (below : List Frame) (meth : Method) (c : Code), mCtx G y d p e R s m args below meth c →
    ∀ (H : Heap) (locs : List Loc) (ls : Array Slot) (cells slots : Nat), mRep G M t u H → (∀ z ∈ locs, mGb G ≤ z.base) → mL ls (mYl y) L → W p (mGl G) e R s m args below meth c H locs cells slots (mMQ G below Q s) (F0 m pc ls st)
/-- an exception at pc -/
def mT (G : mG) (y : mY) (d : Nat) (pc : Nat) (L : List (Option Value)) (M : mM) (t u : Nat) (Q : mQt) (ci q : Nat) : Prop :=
  ∀ (p : Program) (e : Env) (R : Room) (s : State) (m : MethodId) (args : Array Value) (below : List Frame) (meth : Method) (c : Code), mCtx G y d p e R s m args below meth c →
    ∀ (H : Heap) (locs : List Loc) (ls : Array Slot) (cells slots : Nat) (rest : List Value) (fs : List Value), mRep G M t u H → (∀ z ∈ locs, mGb G ≤ z.base) → mL ls (mYl y) L → M q = some (.inr (ci, fs)) → vx_W p (mGl G) e R s m args below meth c H locs cells slots (mMQ G below Q s) (F0 m pc ls rest) q
/-! cells and slots as they are -/
section TIGHT
variable {p : Program} {l : Launch} {e : Env} {R : Room} {s : State} {m : MethodId} {args : Array Value} {below : List Frame} {meth : Method} {c : Code} {T : State} {locs : List Loc} {cells slots : Nat} {H : Heap} {Q : State → Prop} {g : JFrame}
theorem mSum_drop (X : Stand p l e R s m args below meth c T locs cells slots) : slotSum T.heap = slotSum s.heap + ((T.heap.toList.drop s.heap.size).map (·.slots.size)).sum := by
  have h0 : s.slotsTrue = true := by
    have h := X.room
    simp only [State.hasRoom, Bool.and_eq_true] at h
    exact h.2
  have h1 := (State.slotsTrue_iff s).mp h0
  have h2 := (State.slotsTrue_iff T).mp X.book
  have h3 : T.slotsUsed = s.slotsUsed + ((T.heap.toList.drop s.heap.size).map (·.slots.size)).sum := X.same.2.2.2.1
  rw [← h1, ← h2, h3]
theorem mTightS (X : Stand p l e R s m args below meth c T locs cells slots) : Stand p l e R s m args below meth c T locs (T.heap.size - s.heap.size) (slotSum T.heap - slotSum s.heap) := by
  have h := mSum_drop X
  have hs := X.same
  obtain ⟨q1, q2, q3, q4, q5, q6⟩ := hs
  refine { X with same := ⟨q1, q2, ?_, q4, ?_, q6⟩ }
  · show T.heap.size ≤ s.heap.size + (T.heap.size - s.heap.size)
    omega
  · show ((T.heap.toList.drop s.heap.size).map (·.slots.size)).sum ≤ _
    omega
theorem mTight {t u : Nat} (ht : H.size = t) (hu : slotSum H = u) (k : W p l e R s m args below meth c H locs (t - s.heap.size) (u - slotSum s.heap) Q g) : W p l e R s m args below meth c H locs cells slots Q g := by
  intro T hT X
  have X' := mTightS X
  rw [hT, ht, hu] at X'
  exact k T hT X'
theorem mTightX {t u q : Nat} (ht : H.size = t) (hu : slotSum H = u) (k : vx_W p l e R s m args below meth c H locs (t - s.heap.size) (u - slotSum s.heap) Q g q) : vx_W p l e R s m args below meth c H locs cells slots Q g q := by
  intro T hT X
  have X' := mTightS X
  rw [hT, ht, hu] at X'
  exact k T hT X'
/-- the heap has grown since the method's start -/
theorem mGrown (k : s.heap.size ≤ H.size → slotSum s.heap ≤ slotSum H → W p l e R s m args below meth c H locs cells slots Q g) : W p l e R s m args below meth c H locs cells slots Q g := by
  intro T hT X
  have h := mSum_drop X
  have h2 : s.heap.size ≤ T.heap.size := X.same.2.1
  rw [hT] at h h2
  exact k h2 (by omega) T hT X
theorem mGrownX {q : Nat} (k : s.heap.size ≤ H.size → slotSum s.heap ≤ slotSum H → vx_W p l e R s m args below meth c H locs cells slots Q g q) : vx_W p l e R s m args below meth c H locs cells slots Q g q := by
  intro T hT X
  have h := mSum_drop X
  have h2 : s.heap.size ≤ T.heap.size := X.same.2.1
  rw [hT] at h h2
  exact k h2 (by omega) T hT X
end TIGHT
/-! from the walk to the contract -/
theorem mBlind {G : mG} {as : List Value} {M : mM} {t u : Nat} : FrameBlind (mPc G as M t u) := fun _ _ _ _ h => h
theorem mCd_spec {y : mY} {a : Array Value} {s : State} {m : MethodId} (hn : s.methodNamed? (mYn y) = some m) (h : (mCd y).before a s = true) :
    ∃ (meth : Method) (c : Code), s.vm.method? m = some meth ∧ meth.code = some c ∧ c.code = mYc y ∧ c.maxLocals = mYl y ∧ meth.sig.returnType = mYr y ∧ meth.locks = false ∧ c.exceptionTable.toList = tableOf (mYh y) ∧ parseMethodDescriptor (mYn y).desc = some meth.sig := by
  unfold mCd at h
  split at h
  · rename_i he
    obtain ⟨meth, c, h1, h2, h3, h4, h5, h6, h7, h8⟩ := Cond.code_spec hn h
    refine ⟨meth, c, h1, h2, h3, h4, h5, h6, ?_, h8⟩
    rw [List.isEmpty_iff.mp he, Array.isEmpty_iff.mp h7]
    rfl
  · obtain ⟨m9, meth, c, hn9, h1, h2, h3, h4, h6, h7, h8, h9⟩ := Cond.codeWith_spec h
    cases Option.some.inj (hn9.symm.trans hn)
    exact ⟨meth, c, h1, h2, h3, h4, h7, h8, by rw [← h6, table_eq], h9⟩
theorem m_intro {G : mG} {y : mY} {d : Nat} {as : List Value} {M : mM} {t u : Nat} {Q : mQt} (hy : plainName (mYn y).cls = true) (hn : (lg_sl as).length ≤ mYl y ∧ (mEn as).length ≤ mYl y) (k : mW G y d 0 (mEnt (mYl y) as) [] M t u Q) : mMet G d y as M t u Q := by
  intro hG
  refine MetFree.of_bodyS (code := mYc y) (maxLocals := mYl y) (ret := mYr y) hy ?_ ?_
  · intro args s m h hn
    obtain ⟨meth, c, h1, h2, h3, h4, h5, h6, -, -⟩ := mCd_spec hn (atoms_spec (ws := [mCd y]) h _ List.mem_cons_self)
    exact ⟨meth, c, h1, h2, h3, h4, h5, h6⟩
  · intro p e s m args below meth c s₁ B hml hP _
    have hh0 : s₁.heap = s.heap := by rw [B.state]; rfl
    obtain ⟨rfl, hW, hR⟩ := hP
    have X := Stand.of_body B
    obtain ⟨meth9, c9, g1, g2, g3, g4, g5, g6, g7, -⟩ := mCd_spec B.named (atoms_spec (ws := [mCd y]) B.pre _ List.mem_cons_self)
    cases Option.some.inj (g1.symm.trans B.method)
    cases Option.some.inj (g2.symm.trans X.code)
    have et : s.heap.size = t := hR.1
    have eu : slotSum s.heap = u := hR.2.1
    have hctx : mCtx G y d p e (mRoom G d s.heap.size (slotSum s.heap)) s m as.toArray below meth c :=
      ⟨B.exec, B.bytes, B.returns, B.notSynchronized, g4, findClass_of_methodNamed B.named, (name_of_methodNamed B.named B.method).1, g7, hW, rfl, by rw [et]; exact hR.2.2.2.2.1, hR.2.2.2.2.2.1, hG, by rw [et]; exact hR.2.2.1, by rw [eu]; exact hR.2.2.2.1⟩
    have hL := mL_entry hn.1 hn.2
    have X' : Stand p (mGl G) e (mRoom G d s.heap.size (slotSum s.heap)) s m as.toArray below meth c s₁ [] 0 0 := by rw [et, eu]; exact X
    have K := k p e _ s m _ below meth c hctx s.heap [] _ 0 0 hR (fun z h => by cases h) hL
    rw [← lg_entry_eq] at K
    obtain ⟨t', a1, o, b1, b2, b3⟩ := K s₁ hh0 X'
    rw [et, eu] at b3
    exact ⟨t', o, a1, b1, b2, b3⟩
/-! calls -/
def mPost (G : mG) (Q : mQt) : Pt → Array Value → Option Value → Pt → Prop := fun A _ v B => ∃ (M : mM) (t' u' : Nat) (L : List Loc), Q (.inl v) M t' u' ∧ mRep G M t' u' B.U.heap ∧ B.locs = A.locs ++ L ∧ ∀ q ∈ L, mGb G ≤ q.base
def mPostX (G : mG) (Q : mQt) : Pt → Array Value → Addr → Pt → Prop := fun A _ q B => ∃ (ci : Nat) (fs : List Value) (M : mM) (t' u' : Nat) (L : List Loc), Q (.inr (ci, q)) M t' u' ∧ M q = some (.inr (ci, fs)) ∧ mRep G M t' u' B.U.heap ∧ B.locs = A.locs ++ L ∧ ∀ z ∈ L, mGb G ≤ z.base
section MBACK
variable {G : mG} {z : mY} {d : Nat} {as : List Value} {M : mM} {t u : Nat} {Q : mQt} {R : Room} {p : Program} {e : Env} {below : List Frame} {s : State} {sargs : Array Value} {len : Nat}
theorem m_back (hM : mMet G d z as M t u Q) (hG : mKn G) (hcode : ∀ (a' : Array Value) (U : State), s.WarmedH U.vm → (mCd z).before a' U = true) (hini : ∀ (a' : Array Value) (U : State), s.WarmedH U.vm → (Cond.initialized (mYn z).cls).before a' U = true)
    (hframes : 24 + d + 1 ≤ R.frames) (hlocals : 8 + (mYl z + 11) + (400 + 64 * d) ≤ R.locals) :
    vx_Back (mGl G) R p e below s sargs (mYn z) len 8 (PreOf R (mGT G - t) (mGU G - u) (mPc G as M t u)) (mPost G Q) (mPostX G Q) := by
  intro m meth c A g ig mk a X hg hsize hdg hW hn hp
  have h1 : (headSpec [mCd z] (mRoom G d t u)).pre.before a A.U = true := atoms_intro fun w hw => by
    rw [List.mem_singleton] at hw
    rw [hw]
    exact hcode _ _ X.warmed
  have h3 : (Cond.initialized (mYn z).cls).before a A.U = true := hini _ _ X.warmed
  have h4 : A.cells + (mRoom G d t u).cells ≤ R.cells := hp.1
  have h5 : A.slots + (mRoom G d t u).slots ≤ R.slots := hp.2.1
  have hPc : mPc G as M t u a (A.U.calling g mk a) := hp.2.2
  have hc0 := hcode a _ X.warmed
  obtain ⟨U, Ls, c0, s0⟩ := A
  dsimp only [Pt.U, Pt.locs, Pt.cells, Pt.slots] at h1 h3 h4 h5 X hn hPc hc0 ⊢
  obtain ⟨methY, cY, hmY, hcY, -, hlY, -, -, -, -⟩ := mCd_spec hn hc0
  obtain ⟨kY, hkY, -⟩ := className_of_methodNamed hn
  have hinitY : kY.init = .initialized := Cond.initialized_spec (findClass_of_methodNamed hn) hkY h3
  have h : At U g.method c below := by rw [hg]; exact X.here
  have happ : (headSpec [mCd z] (mRoom G d t u)).appliesLoose (mYn z) e.platform (U.calling g mk a) = true :=
    Spec.appliesLoose_calling (g := g) h hdg hn hkY hinitY
      (X.room_calling (g := g) (R' := mRoom G d t u) hsize hmY hcY hframes (by rw [hlY]; show _ + (400 + 64 * d) ≤ _; omega) h4 h5) h1
  obtain ⟨mid, hmid⟩ := h.above
  have hfr : (U.setTop g).frames = (.java g :: mid) ++ below := by rw [State.frames_setTop' g h.top, hmid]; rfl
  obtain ⟨o, s₂, hsteps, -, hend, hq⟩ := Steps.callFree (hM hG) p X.admits X.cas X.clock (acts := []) hfr happ hPc trivial
  have hq' : mQQ G Q (mGT G - t) (mGU G - u) a (U.calling g mk a) o s₂ := hq
  rw [State.frames_setTop' g h.top] at hend
  obtain ⟨g₀, hg0⟩ := Option.isSome_iff_exists.mp h.top
  obtain ⟨r, hr⟩ := State.topJava?_eq_some.mp hg0
  have hr' : (({ U with heap := s₂.heap, slotsUsed := s₂.slotsUsed } : State).setVm s₂.vm).frames = .java g₀ :: r := hr
  rcases hq' with ⟨v, M', t', u', rfl, hqc, hrep, L, hfe, hL⟩ | ⟨q, ci, fs, M', t', u', L, rfl, hqx, hMq, hrep, hW₂, hsm, hL⟩
  · obtain ⟨-, hW₂, e2, q2, q3, q4, q5, q6⟩ := id hfe
    have e3 : s₂ = ({ (U.calling g mk a).setFrames s₂.frames with heap := s₂.heap, slotsUsed := s₂.slotsUsed } : State).setVm s₂.vm := by
      have : s₂ = ({ s₂ with vm := (U.calling g mk a).vm } : State).setVm s₂.vm := rfl
      rw [e2] at this
      exact this
    obtain ⟨c₂, i₂, len₂, hc₂, hd₂, hf₂⟩ := hend
    have hW' : U.WarmedH s₂.vm := hW₂
    have hcc : c₂ = c := by
      have h1 : s₂.code? g.method = U.code? g.method := by
        rw [State.code?_eq, State.code?_eq, hW'.alike.method?]
      exact Option.some.inj (hc₂.symm.trans (h1.trans h.code))
    subst hcc
    have hlen : len₂ = len := by rw [hdg] at hd₂; cases hd₂; rfl
    subst hlen
    have hs₂ : s₂ = (({ U with heap := s₂.heap, slotsUsed := s₂.slotsUsed } : State).setVm s₂.vm).setTop { g with pc := g.pc + len₂, stack := v.toList ++ g.stack } := by
      refine e3.trans ?_
      rw [hf₂, State.calling_eq h.top, State.setFrames_setFrames, State.setTop_of_frames _ hr', hr]
      rfl
    have hsame : U.sameButNew ({ U with heap := s₂.heap, slotsUsed := s₂.slotsUsed } : State) L (mGT G - t) (mGU G - u) := by
      refine ⟨?_, q2, q3, q4, q5, q6⟩
      obtain ⟨t, ht, -⟩ := State.frames_cons hr
      show ({ U with heap := s₂.heap, slotsUsed := s₂.slotsUsed } : State) = { U.setFrames U.frames with heap := s₂.heap, slotsUsed := s₂.slotsUsed }
      rw [State.setFrames_self ht]
    subst hg
    refine Or.inl ⟨v, ⟨(({ U with heap := s₂.heap, slotsUsed := s₂.slotsUsed } : State).setVm s₂.vm), Ls ++ L, c0 + (mGT G - t), s0 + (mGU G - u)⟩,
      ⟨X.admits, X.cas, X.clock, X.frames, X.room, X.hears, X.method, X.code, (X.here.setHeapUsed s₂.heap s₂.slotsUsed).setVm hW'.alike, X.tail, State.WarmedH.trans X.warmed hW', X.limits, X.bytes, X.same.trans (hsame.setVm s.vm)⟩,
      ⟨M', t', u', L, hqc, hrep, rfl, hL⟩, ?_⟩
    show Steps p.tables e below _ ((({ U with heap := s₂.heap, slotsUsed := s₂.slotsUsed } : State).setVm s₂.vm).setTop { g with pc := g.pc + len₂, stack := v.toList ++ g.stack })
    rw [← hs₂]
    exact hsteps
  · obtain ⟨e2, q2, q3, q4, q5, q6⟩ := id hsm
    have e3 : s₂ = ({ (U.calling g mk a).setFrames s₂.frames with heap := s₂.heap, slotsUsed := s₂.slotsUsed } : State).setVm s₂.vm := by
      have : s₂ = ({ s₂ with vm := (U.calling g mk a).vm } : State).setVm s₂.vm := rfl
      rw [e2] at this
      exact this
    have hf₂ : s₂.frames = .throwing q :: .java g :: U.frames.tail := hend
    have hW' : U.WarmedH s₂.vm := hW₂
    have hs₂ : s₂ = ((({ U with heap := s₂.heap, slotsUsed := s₂.slotsUsed } : State).setVm s₂.vm).setTop g).pushFrame (.throwing q) := by
      refine e3.trans ?_
      rw [hf₂, State.calling_eq h.top, State.setFrames_setFrames, State.pushFrame, State.frames_setTop _ hr', State.setTop_of_frames _ hr', State.setFrames_setFrames, hr]
      rfl
    have hsame : U.sameButNew ({ U with heap := s₂.heap, slotsUsed := s₂.slotsUsed } : State) L (mGT G - t) (mGU G - u) := by
      refine ⟨?_, q2, q3, q4, q5, q6⟩
      obtain ⟨t, ht, -⟩ := State.frames_cons hr
      show ({ U with heap := s₂.heap, slotsUsed := s₂.slotsUsed } : State) = { U.setFrames U.frames with heap := s₂.heap, slotsUsed := s₂.slotsUsed }
      rw [State.setFrames_self ht]
    subst hg
    refine Or.inr ⟨q, ⟨(({ U with heap := s₂.heap, slotsUsed := s₂.slotsUsed } : State).setVm s₂.vm), Ls ++ L, c0 + (mGT G - t), s0 + (mGU G - u)⟩,
      ⟨X.admits, X.cas, X.clock, X.frames, X.room, X.hears, X.method, X.code, (X.here.setHeapUsed s₂.heap s₂.slotsUsed).setVm hW'.alike, X.tail, State.WarmedH.trans X.warmed hW', X.limits, X.bytes, X.same.trans (hsame.setVm s.vm)⟩,
      ⟨ci, fs, M', t', u', L, hqx, hMq, hrep, rfl, hL⟩, ?_⟩
    show Steps p.tables e below _ (((({ U with heap := s₂.heap, slotsUsed := s₂.slotsUsed } : State).setVm s₂.vm).setTop g).pushFrame (.throwing q))
    rw [← hs₂]
    exact hsteps
end MBACK
/-- what follows a call -/
def mK (G : mG) (y : mY) (d : Nat) (pc pc' : Nat) (L : List (Option Value)) (rest : List Value) (Q : mQt) : mQt := fun r M t u => match r with
  | .inl v => mW G y d pc' L (v.toList ++ rest) M t u Q
  | .inr x => mT G y d pc L M t u Q x.1 x.2
theorem mK_r {G : mG} {y : mY} {d pc pc' : Nat} {L : List (Option Value)} {rest : List Value} {Q : mQt} {M : mM} {t u : Nat} {v : Value} (k : mW G y d pc' L (v :: rest) M t u Q) : mK G y d pc pc' L rest Q (.inl (some v)) M t u := k
theorem mK_v {G : mG} {y : mY} {d pc pc' : Nat} {L : List (Option Value)} {rest : List Value} {Q : mQt} {M : mM} {t u : Nat} (k : mW G y d pc' L rest M t u Q) : mK G y d pc pc' L rest Q (.inl none) M t u := k
theorem mK_x {G : mG} {y : mY} {d pc pc' : Nat} {L : List (Option Value)} {rest : List Value} {Q : mQt} {M : mM} {t u ci q : Nat} (k : mT G y d pc L M t u Q ci q) : mK G y d pc pc' L rest Q (.inr (ci, q)) M t u := k
/-- how a call's run is used -/
theorem m_after {G : mG} {y : mY} {d pc : Nat} {L : List (Option Value)} {st rest : List Value} {Q : mQt} {p : Program} {e : Env} {R : Room} {s : State} {m : MethodId} {args : Array Value} {below : List Frame} {meth : Method} {c : Code} {T : State} {locs : List Loc} {cells slots : Nat} {ls : Array Slot} {as : List Value}
    (C : mCtx G y (d + 1) p e R s m args below meth c) (hl : ∀ z ∈ locs, mGb G ≤ z.base) (hL : mL ls (mYl y) L)
    (h : (∃ (v : Option Value) (vm₁ : Vm) (B : Pt), s.WarmedH vm₁ ∧ Stand p (mGl G) e R s m args below meth c B.U B.locs B.cells B.slots ∧ mPost G (mK G y (d + 1) pc (pc + 3) L rest Q) ⟨T.setVm vm₁, locs, cells, slots⟩ as.toArray v B ∧
        ∀ target, Steps p.tables e below (B.U.setTop { F0 m pc ls st with pc := pc + 3, stack := v.toList ++ rest }) target → Steps p.tables e below (T.setTop (F0 m pc ls st)) target) ∨
      (∃ (q : Addr) (vm₁ : Vm) (B : Pt), s.WarmedH vm₁ ∧ Stand p (mGl G) e R s m args below meth c B.U B.locs B.cells B.slots ∧ mPostX G (mK G y (d + 1) pc (pc + 3) L rest Q) ⟨T.setVm vm₁, locs, cells, slots⟩ as.toArray q B ∧
        Steps p.tables e below (T.setTop (F0 m pc ls st)) ((B.U.setTop { F0 m pc ls st with stack := rest }).pushFrame (.throwing q)))) :
    ∃ t2, Steps p.tables e below (T.setTop (F0 m pc ls st)) t2 ∧ mMQ G below Q s t2 := by
  rcases h with ⟨v, vm₁, B, -, X', ⟨M', t', u', L', hq, hrep, hB, hL'⟩, hst⟩ | ⟨q, vm₁, B, -, X', ⟨ci, fs, M', t', u', L', hq, hMq, hrep, hB, hL'⟩, hst⟩
  · have hl' : ∀ z ∈ B.locs, mGb G ≤ z.base := by
      rw [hB]
      intro z hz
      rcases List.mem_append.mp hz with h | h
      · exact hl z h
      · exact hL' z h
    have hq' : mW G y (d + 1) (pc + 3) L (v.toList ++ rest) M' t' u' Q := hq
    obtain ⟨t2, a1, b1⟩ := hq' p e R s m args below meth c C B.U.heap B.locs ls B.cells B.slots hrep hl' hL B.U rfl X'
    exact ⟨t2, hst t2 a1, b1⟩
  · have hl' : ∀ z ∈ B.locs, mGb G ≤ z.base := by
      rw [hB]
      intro z hz
      rcases List.mem_append.mp hz with h | h
      · exact hl z h
      · exact hL' z h
    have hq' : mT G y (d + 1) pc L M' t' u' Q ci q := hq
    obtain ⟨t2, a1, b1⟩ := hq' p e R s m args below meth c C B.U.heap B.locs ls B.cells B.slots rest fs hrep hl' hL hMq B.U rfl X'
    exact ⟨t2, hst.trans a1, b1⟩
