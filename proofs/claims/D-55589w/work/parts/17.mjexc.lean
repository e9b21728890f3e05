/-! ===== mj: exceptions that are made ===== -/
section MX0
variable {p : Program} {l : Launch} {e : Env} {R : Room} {s : State} {m₀ : MethodId} {args : Array Value} {below : List Frame} {meth : Method} {c : Code} {W : State} {locs : List Loc} {cells slots : Nat}
set_option maxHeartbeats 2000000 in
/-- Throwable's constructor through a chain of empty ones, called on an object of class ocls (follows vx_ctorMade0 of kit/laws/EXCEPTIONS) -/
theorem mx_ctor0 (X : Stand p l e R s m₀ args below meth c W locs cells slots) (hexec : p.tables.exec = Jvm.exec) (htr : e.platform.stackTraces = false) {own cls ocls : String} {names : List String} {ic b : Nat}
    (hown : s.vm.findClass own = some m₀.cls) (hcls : Bundle.fit cls = true) (hnames : ∀ n ∈ names, Bundle.fit n = true)
    (h1 : ∀ a ∈ Bundle.throwableAtoms, a.before args s = true) (h2 : ∀ a ∈ Bundle.chain0Atoms cls names, a.before args s = true)
    (hlk : (Cond.methodLink own ic (Bundle.init0 cls)).before args s = true) (hsl0 : (Cond.selects ocls Bundle.tFill0 Bundle.tFill0).before args s = true) (hslF : (Cond.selects ocls Bundle.tFill Bundle.tFill).before args s = true)
    (hU : (Cond.isRef (.static Bundle.tN "UNASSIGNED_STACK" Bundle.steD)).before args s = true) (hN : (Cond.isRef (.static Bundle.tN "SUPPRESSED_SENTINEL" Bundle.listD)).before args s = true)
    (hfl : (Cond.fieldLink Bundle.tN 198 Bundle.tN "backtrace" "Ljava/lang/Object;").before args s = true) (hlb : (Cond.lays Bundle.tN Bundle.tN "backtrace" "Ljava/lang/Object;").before args s = true)
    (hlC : (Cond.lays ocls Bundle.tN "cause" "Ljava/lang/Throwable;").before args s = true) (hlS : (Cond.lays ocls Bundle.tN "stackTrace" Bundle.steD).before args s = true) (hlP : (Cond.lays ocls Bundle.tN "suppressedExceptions" Bundle.listD).before args s = true) (hlB : (Cond.lays ocls Bundle.tN "backtrace" "Ljava/lang/Object;").before args s = true)
    (hL1 : vx_L Bundle.tN "UNASSIGNED_STACK" Bundle.steD (fun q => b ≤ q) s s.heap) (hlocs : ∀ x ∈ locs, b ≤ x.base)
    {a : Addr} {cO : ClassId} {kO : Class} (hfO : s.vm.findClass ocls = some cO) (hkO : s.vm.classes[cO]? = some kO) (hord : kO.kind = .ordinary)
    {cell : Cell} (hcell : W.heap[a]? = some cell) (hcl : cell.cls = cO) (hvm : cell.vm = .none) (hm1 : cell.monitor.owner = none) (hm2 : cell.monitor.count = 0) (hab : b ≤ a)
    {iC iS iP iB : Nat} (sC : SlotIs s Bundle.tN "cause" "Ljava/lang/Throwable;" iC) (sS : SlotIs s Bundle.tN "stackTrace" Bundle.steD iS) (sP : SlotIs s Bundle.tN "suppressedExceptions" Bundle.listD iP) (sB : SlotIs s Bundle.tN "backtrace" "Ljava/lang/Object;" iB)
    (gC : iC < cell.slots.size) (gS : iS < cell.slots.size) (gP : iP < cell.slots.size) (gB : cell.slots[iB]? = some .null)
    {g : JFrame} (hg : g.method = m₀) (hsize : g.locals.size = c.maxLocals) {rest : List Value} (hstack : g.stack = .ref a :: rest)
    (hd6 : decode c.code g.pc = .ok (.invokespecial ic, 3))
    (hRframes : names.length + 3 < R.frames) (hRlocals : 2 * g.monitorRoom + (rest.map fun v => v.category).sum + (13 * (names.length + 1) + 41) ≤ R.locals) :
    ∃ (V : State) (v1 v2 : Value) (L : List Loc), Stand p l e R s m₀ args below meth c (V.setCell a ((((cell.setSlot iC (.ref a)).setSlot iS v1).setSlot iP v2).setSlot iS v1)) (locs ++ L) cells slots ∧ (∀ y ∈ L, y.base = a) ∧ V.heap = W.heap ∧
      ∀ target, Steps p.tables e below ((V.setCell a ((((cell.setSlot iC (.ref a)).setSlot iS v1).setSlot iP v2).setSlot iS v1)).setTop { g with stack := rest, pc := g.pc + 3 }) target → Steps p.tables e below (W.setTop g) target := by
  have howns : e.platform.frameOwnsMonitors = true := by rw [X.admits.platform]
  have hfin : e.platform.finalization = false := by rw [X.admits.platform]
  have hpl : e.platform.magicAccessors = ({} : Platform).magicAccessors := by rw [X.admits.platform]
  obtain ⟨T, Z, L, LZ, Y⟩ := ThrowableC.of_atoms (args := args) howns hfin hpl h1
  obtain ⟨P1, Ps, hlen, L1, hL, hP1m, hlink1, hlink⟩ := Bundle.chain0 (args := args) hpl Y.init0 names cls hcls hnames h2
  have hsel0 : selectMethod e.platform s.vm cO T.fill0 = .method T.fill0 := by
    obtain ⟨c2, r2, m2, q1, q2, q3, q4, -⟩ := Cond.selects_spec hsl0
    cases Option.some.inj (q1.symm.trans hfO)
    cases Option.some.inj (q2.symm.trans (State.methodFound?_of_named Y.fill0 (by decide)))
    cases Option.some.inj (q3.symm.trans Y.fill0)
    rw [Launch.admits_selectMethod X.admits]; exact q4
  have hselF : selectMethod e.platform s.vm cO T.fill = .method T.fill := by
    obtain ⟨c2, r2, m2, q1, q2, q3, q4, -⟩ := Cond.selects_spec hslF
    cases Option.some.inj (q1.symm.trans hfO)
    cases Option.some.inj (q2.symm.trans (State.methodFound?_of_named Y.fill (by decide)))
    cases Option.some.inj (q3.symm.trans Y.fill)
    rw [Launch.admits_selectMethod X.admits]; exact q4
  obtain ⟨cellS0, hcS0, hiss⟩ := Y.statics
  obtain ⟨u0, hu0⟩ := Cond.staticRefV Y.unassigned L.unassignedStatic L.statics hcS0 hiss hU
  obtain ⟨sen, hsen⟩ := Cond.staticRefV Y.sentinel L.sentinelStatic L.statics hcS0 hiss hN
  obtain ⟨ci198, i198, fB, hk198, hg198, ha198, hsB, -, hnB, htB, hffB⟩ := Cond.ownField (t := .object "java/lang/Object") Y.found L.cls (by decide +kernel) hfl hlb e.platform hpl
  obtain ⟨cellS, hcS', heS, -, hkeep⟩ := X.same.2.2.2.2.2 T.aS cellS0 hcS0
  have hcellS : W.heap[T.aS]? = some cellS := hcS'
  have hSb : ¬ b ≤ T.aS := by
    obtain ⟨c9, k9, i9, f9, a9, cell9, z1, z2, z3, z4, z5, z6, z7, z8, z9, z10⟩ := hL1
    cases z2.symm.trans Y.unassigned
    cases z4.symm.trans L.statics
    exact z10
  have hout' : ∀ i, (⟨T.aS, i⟩ : Loc) ∉ locs := fun i hmem => hSb (hlocs _ hmem)
  have hknownS : cellS.vm ≠ .unknown := by
    rw [heS]; intro hu
    rw [show cellS0.vm = .unknown from hu] at hiss
    cases hiss
  have hneS : T.aS ≠ a := fun h => hSb (by rw [h]; exact hab)
  obtain ⟨tyC, dC, hdC, hdnC⟩ := Cond.laysAt hfO hkO Y.cause hlC
  obtain ⟨tyS, dS, hdS, hdnS⟩ := Cond.laysAt hfO hkO Y.stack hlS
  obtain ⟨tyP, dP, hdP, hdnP⟩ := Cond.laysAt hfO hkO Y.supp hlP
  obtain ⟨tyB, dB, hdB, hdnB⟩ := Cond.laysAt hfO hkO hffB hlB
  have bC := Cond.laysApart hdB hdC hdnB hdnC (by rw [hnB, Y.causeName]; decide)
  have bS := Cond.laysApart hdB hdS hdnB hdnS (by rw [hnB, Y.stackName]; decide)
  have bP := Cond.laysApart hdB hdP hdnB hdnP (by rw [hnB, Y.suppName]; decide)
  have eC : T.fCause.slot = iC := by obtain ⟨_, _, _, _, z, rfl⟩ := sC; cases z.symm.trans Y.cause; rfl
  have eS : T.fStack.slot = iS := by obtain ⟨_, _, _, _, z, rfl⟩ := sS; cases z.symm.trans Y.stack; rfl
  have eP : T.fSupp.slot = iP := by obtain ⟨_, _, _, _, z, rfl⟩ := sP; cases z.symm.trans Y.supp; rfl
  have eB : fB.slot = iB := by obtain ⟨_, _, _, _, z, rfl⟩ := sB; cases z.symm.trans hffB; rfl
  have hskip : SkipFacts T e.platform s (fun u => u) u0 ((preparedCellV T.toThrowableT cell a u0 sen).withEntry W.cur) :=
    ⟨{ ci198 := ci198, i198 := i198, fBack := fB }, ⟨hk198, hg198, ha198, hsB⟩, by
      have hB : cell.slots[fB.slot]? = some .null := by rw [eB]; exact gB
      simpa [preparedCellV, Cell.setSlot, Cell.withEntry, Array.getElem?_setIfInBounds, bC, bS, bP, bC.symm, bS.symm, bP.symm] using hB, fun _ _ => rfl⟩
  have hpos : Cond.instanceMethod (Bundle.init0 cls) ∈ Bundle.chain0Atoms cls names ∧ Cond.code (Bundle.init0 cls) Bundle.five 1 none ∈ Bundle.chain0Atoms cls names := by
    cases names <;> simp [Bundle.chain0Atoms, Bundle.passAtoms]
  obtain ⟨tm, methC, cdC, kC, vm₁, hnC, -, -, -, -, -, -, -, hW₁, st1⟩ := Steps.initCold (tb := p.tables) (e := e) (below := below) (s := s) (U := W) X.here hexec X.warmed hpl hown (t := Bundle.init0 cls) rfl rfl (Bundle.fit_spec hcls).2
    hlk (h2 _ hpos.1) (bytes := Bundle.five) (maxL := 1) (h2 _ hpos.2)
    (f := g) hg (a := a) (rest := rest) hstack hd6
  cases Option.some.inj (hnC.symm.trans hP1m)
  have X₁ := X.noted hW₁
  obtain ⟨vm₂, X₂, st2⟩ := X₁.ctorPlainOffV hexec (g := { g with stack := rest }) hg hsize T L Z LZ (P1 :: Ps)
    (fun P hP => by rcases List.mem_cons.mp hP with rfl | hP; exact L1; exact hL P hP) ⟨hlink1, hlink⟩ (u0 := u0) (sen := sen) (self := a) (cell := cell) (cellS := cellS)
    hcell (fun _ => by simp [hvm]) (by simp [hvm]) hm1 hm2 (by rw [hcl]; exact hsel0) (by rw [hcl]; exact hselF) hcellS hneS hknownS (by rw [hkeep _ (hout' _)]; exact hu0) (by rw [hkeep _ (hout' _)]; exact hsen)
    ⟨by rw [eC]; exact gC, by rw [hcl, hvm]; exact fresh_fits (s := s) (U := s) (Vm.Alike.refl _) hkO hord tyC (by rw [Y.causeType]; rfl)⟩
    ⟨by rw [eS]; exact gS, by rw [hcl, hvm]; exact fresh_fits (s := s) (U := s) (Vm.Alike.refl _) hkO hord tyS (by rw [Y.stackType]; exact fits_refV_array _ u0)⟩
    ⟨by rw [eP]; exact gP, by rw [hcl, hvm]; exact fresh_fits (s := s) (U := s) (Vm.Alike.refl _) hkO hord tyP (by rw [Y.suppType]; exact fits_refV_object _ sen)⟩ Y.objLocals hskip htr [] hd6
    (by simp only [List.length_cons, hlen]; omega) (by simp only [List.length_cons, hlen]; exact hRlocals)
  simp only [preparedCellV, eC, eS, eP] at X₂ st2
  refine ⟨(W.setVm vm₁).setVm vm₂, u0.v, sen.v, _, X₂, fun y hy => ?_, rfl, fun target hwalk => st1 _ (fun acts => ?_)⟩
  · simp only [List.mem_cons, List.not_mem_nil, or_false] at hy
    rcases hy with rfl | rfl | rfl | rfl <;> rfl
  · rw [doInvoke_state]
    exact st2 _ hwalk
end MX0
def mXk : Cond → Bool
  | .castable _ _ => true
  | .declares _ => true
  | w => goodWord w
theorem mInTbl (ws : List Cond) (ps : List Nat) (h : ws = ps.filterMap (fun i => lw_tbl[i]?)) (hk : ws.all mXk = true) : ∀ w ∈ ws, w ∈ lw_tbl ∧ mXk w = true := by
  intro w hw
  have h1 := List.all_eq_true.mp hk w hw
  rw [h] at hw
  obtain ⟨i, -, hi⟩ := List.mem_filterMap.mp hw
  exact ⟨List.mem_of_getElem? hi, h1⟩
section MX1
variable {G : mG} {y : mY} {d pc : Nat} {L : List (Option Value)} {st : List Value} {M : mM} {t u : Nat} {Q : mQt}
theorem mCtx.tx {p : Program} {e : Env} {R : Room} {s : State} {m : MethodId} {args : Array Value} {below : List Frame} {meth : Method} {c : Code} (C : mCtx G y d p e R s m args below meth c) {w : Cond} (h : w ∈ lw_tbl ∧ mXk w = true) : w.before args s = true := by
  obtain ⟨h1, h2⟩ := h
  unfold mXk at h2
  split at h2
  · exact va_Nw.use rfl (C.cast h1)
  · exact va_Nw.use rfl (va_Nw.warmD C.warm (va_Nw.of rfl (C.kn.1 _ h1)))
  · exact C.ts (lw_g h1 h2)
/-- the statics of Throwable that its constructor reads -/
theorem mCtx.zq {p : Program} {e : Env} {R : Room} {s : State} {m : MethodId} {args : Array Value} {below : List Frame} {meth : Method} {c : Code} (C : mCtx G y d p e R s m args below meth c) {cn n ds : String} (hl : Cond.laysStatic cn n ds ∈ lw_tbl) (hi : Cond.initialized cn ∈ lw_all) (hr : (Cond.isRef (.static cn n ds)).before (mGv G) (mGs G) = true) : vx_Zq cn n ds (fun q => mGb G ≤ q) s s.heap := by
  have h1 : vx_Zq cn n ds (fun q => mGb G ≤ q) (mGs G) (mGs G).heap := vx_Zqof (C.kn.1 _ hl) (C.kn.1 _ (lw_all_tbl hi)) hr (fun a h => Nat.not_le.mpr h)
  refine (vx_Zq.moved C.warm.alike h1).kept (fun a h1 _ => C.old a h1)
theorem mUns {G : mG} (h : mKn G) : (Cond.isRef (.static Bundle.tN "UNASSIGNED_STACK" Bundle.steD)).before (mGv G) (mGs G) = true := flat_of_before _ h.2.2.2.2 _ (by decide +kernel)
theorem mSup {G : mG} (h : mKn G) : (Cond.isRef (.static Bundle.tN "SUPPRESSED_SENTINEL" Bundle.listD)).before (mGv G) (mGs G) = true := flat_of_before _ h.2.2.2.2 _ (by decide +kernel)
theorem mThr_ok : ∀ w ∈ Bundle.throwableAtoms.filter vx_no, w ∈ lw_tbl ∧ mXk w = true := mInTbl _ [89, 444, 453, 465, 468, 470, 445, 446, 124, 125, 447, 452, 466, 486, 434, 487, 436, 488, 438, 448, 450, 440] (by decide +kernel) (by decide +kernel)
theorem mCtx.thr {p : Program} {e : Env} {R : Room} {s : State} {m : MethodId} {args : Array Value} {below : List Frame} {meth : Method} {c : Code} (C : mCtx G y d p e R s m args below meth c) : ∀ a ∈ Bundle.throwableAtoms, a.before args s = true :=
  vx_own (fun w hw => C.tx (mThr_ok w hw)) (vx_isRefq (C.zq q449 q89 (mUns C.kn)).1) (vx_isRefq (C.zq q451 q89 (mSup C.kn)).1) (C.zq q449 q89 (mUns C.kn)).2.word (C.zq q451 q89 (mSup C.kn)).2.word
/-- a class of exceptions: the constructors that its own calls -/
def mXC (cls : String) (names : List String) : Prop := Bundle.fit cls = true ∧ (∀ n ∈ names, Bundle.fit n = true) ∧ (∀ w ∈ Bundle.chain0Atoms cls names, w ∈ lw_tbl ∧ mXk w = true) ∧ names.length ≤ 4
/-- .. whose objects are made -/
def mXO (ocls : String) : Prop := Cond.selects ocls Bundle.tFill0 Bundle.tFill0 ∈ lw_all ∧ Cond.selects ocls Bundle.tFill Bundle.tFill ∈ lw_all ∧ Cond.lays ocls Bundle.tN "cause" "Ljava/lang/Throwable;" ∈ lw_all ∧ Cond.lays ocls Bundle.tN "stackTrace" Bundle.steD ∈ lw_all ∧ Cond.lays ocls Bundle.tN "suppressedExceptions" Bundle.listD ∈ lw_all ∧ Cond.lays ocls Bundle.tN "backtrace" "Ljava/lang/Object;" ∈ lw_all
theorem r_make0 {ik ic ci : Nat} {cls : String} {T0 : u_T} {names : List String} (hci : mCl[ci]? = some (cls, T0, 0)) (hX : mXC cls names) (hO : mXO cls) (hk : Cond.classLink (mYn y).cls ik cls ∈ lw_all) (hini : Cond.initialized cls ∈ lw_all) (hins : Cond.instantiable cls 6 ∈ lw_all) (hlk : Cond.methodLink (mYn y).cls ic (Bundle.init0 cls) ∈ lw_all)
    (ht : t + 1 ≤ mGT G) (hu : u + 6 ≤ mGU G) (hr : (st.map fun v => v.category).sum ≤ 8)
    (d0 : decode (mYc y) pc = .ok (.new ik, 3)) (d3 : decode (mYc y) (pc + 3) = .ok (.dup, 1)) (d4 : decode (mYc y) (pc + 4) = .ok (.invokespecial ic, 3))
    (kk : mW G y d (pc + 7) L (.ref t :: st) (mset M t (.inr (ci, []))) (t + 1) (u + 6) Q) : mW G y d pc L st M t u Q := by
  intro p e R s m args below meth c C H locs ls cells slots hR hl hL
  refine mGrown fun hg1 hg2 => mTight hR.1 hR.2.1 ?_
  have h1 := hR.1
  have h2 := hR.2.1
  have hfc := (C.cls hci).2.1
  obtain ⟨hO1, hO2, hO3, hO4, hO5, hO6⟩ := hO
  obtain ⟨hX1, hX2, hX3, hX4⟩ := hX
  refine W.newcK C.hx C.hb C.own (C.ts hk) (C.ts hins) (C.ts hini) (g := F0 m pc ls st) rfl d0 ?_ ?_ hfc h1 fun H1 kC hkC e1 z1 o1 => ?_
  · rw [C.room]; show t - s.heap.size + 1 ≤ mGT G - s.heap.size; omega
  · rw [C.room]; show u - slotSum s.heap + 6 ≤ mGU G - slotSum s.heap; omega
  · obtain ⟨c9, k9, w1, w2, hord, w4⟩ := Cond.instantiable_spec (C.ts hins)
    cases w1.symm.trans hfc
    cases w2.symm.trans hkC
    have hsz : (blank (mGc G ci) kC).slots.size = 6 := by simp [blank, w4]
    have hR1 : mRep G (mset M t (.inr (ci, []))) (t + 1) (u + 6) H1 := hR.new e1 hsz z1 o1 ht hu ⟨_, hci, ⟨_, e1, rfl, rfl, fun k h => absurd h (Nat.not_lt_zero k), rfl, rfl⟩, rfl⟩
    refine lv_dup C.hx C.hb d3 rfl ?_
    intro T hT X
    have htr : e.platform.stackTraces = false := (show e.platform.stackTraces = (mGl G).stackTraces by rw [X.admits.platform]).trans C.kn.2.1
    have slotOf : ∀ {f ds : String} , Cond.lays cls Bundle.tN f ds ∈ lw_all → ∃ i, SlotIs s Bundle.tN f ds i ∧ ∃ ty, kC.instanceTypes[i]? = some ty := by
      intro f ds hw
      obtain ⟨i, hi⟩ := u_found (Or.inl (C.ts hw))
      obtain ⟨cf, kf, fi, fd, q1, rfl⟩ := id hi
      exact ⟨_, hi, _, (u_facts hfc hkC (Or.inl (C.ts hw)) q1).2.2⟩
    obtain ⟨iC, sC, tC, yC⟩ := slotOf hO3
    obtain ⟨iS, sS, tS, yS⟩ := slotOf hO4
    obtain ⟨iP, sP, tP, yP⟩ := slotOf hO5
    obtain ⟨iB, sB⟩ := u_found (Or.inl (C.ts hO6))
    have gB : (blank (mGc G ci) kC).slots[iB]? = some .null := by
      obtain ⟨cf, kf, fi, fd, q1, rfl⟩ := id sB
      have h3 := (u_facts hfc hkC (Or.inl (C.ts hO6)) q1).2.2
      rw [(State.fieldFound?_type q1 (show parseFieldDescriptor "Ljava/lang/Object;" = some (.object "java/lang/Object") by decide +kernel)).2] at h3
      exact k2_blank h3
    have gsz : ∀ {i : Nat} {ty : FieldType}, kC.instanceTypes[i]? = some ty → i < (blank (mGc G ci) kC).slots.size := fun h => by
      have := (Array.getElem?_eq_some_iff.mp h).1
      simpa [blank] using this
    have hzU := C.zq q449 q89 (mUns C.kn)
    have hzN := C.zq q451 q89 (mSup C.kn)
    have h9 : 2 * (F0 m pc ls st).monitorRoom + (st.map fun v => v.category).sum ≤ 8 := lv_room hr
    obtain ⟨V, v1, v2, L9, X', hLb, hV, stp⟩ := mx_ctor0 X C.hx htr C.own hX1 hX2 C.thr (fun a ha => C.tx (hX3 a ha)) (C.ts hlk) (C.ts hO1) (C.ts hO2) (vx_isRefq hzU.1) (vx_isRefq hzN.1) (C.ts q443) (C.ts q442) (C.ts hO3) (C.ts hO4) (C.ts hO5) (C.ts hO6) hzU.2 hl (a := t) hfc hkC hord (cell := blank (mGc G ci) kC) (by rw [hT]; exact e1) rfl rfl rfl rfl (by have := hR.2.2.2.2.1; omega) sC sS sP sB (gsz yC) (gsz yS) (gsz yP) gB
      (g := F0 m (pc + 4) ls (.ref t :: .ref t :: st)) rfl (by rw [C.ml]; exact hL.sz) rfl (by rw [C.hb]; exact d4) (by rw [C.room]; show names.length + 3 < 24 + d; omega)
      (by
        rw [C.room]
        have e9 : ((Value.ref t :: st).map fun v => v.category).sum ≤ 9 := by
          have e8 : (Value.ref t).category = 1 := rfl
          have := h9
          simp only [List.map_cons, List.sum_cons, e8]
          omega
        show 2 * 0 + _ + _ ≤ 400 + 64 * d
        omega)
    have hlt : t < V.heap.size := by rw [hV, hT, z1]; omega
    have e5 : (V.setCell t (((((blank (mGc G ci) kC).setSlot iC (.ref t)).setSlot iS v1).setSlot iP v2).setSlot iS v1)).heap[t]? = some (((((blank (mGc G ci) kC).setSlot iC (.ref t)).setSlot iS v1).setSlot iP v2).setSlot iS v1) := heapAt_setCell_self _ hlt
    have hz5 : (V.setCell t (((((blank (mGc G ci) kC).setSlot iC (.ref t)).setSlot iS v1).setSlot iP v2).setSlot iS v1)).heap.size = H1.size := by rw [size_setCell, hV, hT]
    have oq5 : ∀ q, q ≠ t → (V.setCell t (((((blank (mGc G ci) kC).setSlot iC (.ref t)).setSlot iS v1).setSlot iP v2).setSlot iS v1)).heap[q]? = H1[q]? := fun q hq => by rw [heapAt_setCell_ne _ (Ne.symm hq), hV, hT]
    have hR2 := hR1.put (a := t) (e := .inr (ci, [])) (by have := hR.2.2.2.2.1; omega) e1 e5 (by simp [Cell.setSlot]) hz5 oq5 ⟨_, hci, ⟨_, e5, rfl, rfl, fun k h => absurd h (Nat.not_lt_zero k), rfl, rfl⟩, rfl⟩
    rw [mset_mset] at hR2
    obtain ⟨t2, a1, b1⟩ := kk p e R s m args below meth c C _ _ ls _ _ hR2 (fun z hz => by
      rcases List.mem_append.mp hz with h | h
      · exact hl z h
      · rw [hLb z h]; have := hR.2.2.2.2.1; omega) hL _ rfl X'
    exact ⟨t2, stp t2 a1, b1⟩
/-- the superclass's constructor, in that of an exception of one's own -/
theorem r_super0 {ic ci a N : Nat} {cls ocls : String} {T0 : u_T} {ty0 : Nat → FieldType} {names : List String} {r : List Value} (hci : mCl[ci]? = some (ocls, T0, N)) (hN : 6 ≤ N) (hT0 : T0 0 = (Bundle.tN, "cause", "Ljava/lang/Throwable;", false) ∧ T0 1 = (Bundle.tN, "stackTrace", Bundle.steD, false) ∧ T0 2 = (Bundle.tN, "suppressedExceptions", Bundle.listD, false) ∧ T0 4 = (Bundle.tN, "backtrace", "Ljava/lang/Object;", false))
    (hin : ∀ w ∈ u_ws ocls T0 N, w ∈ lw_all) (hty : ∀ k, k < N → parseFieldDescriptor (T0 k).2.2.1 = some (ty0 k)) (hnm : ∀ a, a < N → ∀ b, b < N → a ≠ b → (T0 a).2.1 ≠ (T0 b).2.1)
    (hX : mXC cls names) (hO : mXO ocls) (hlk : Cond.methodLink (mYn y).cls ic (Bundle.init0 cls) ∈ lw_all) (hge : mGb G ≤ a)
    (hM : M a = some (.inr (ci, .null :: .null :: .null :: .null :: .null :: .int 0 :: r))) (hr : (st.map fun v => v.category).sum ≤ 8) (hd : decode (mYc y) pc = .ok (.invokespecial ic, 3))
    (kk : ∀ v1 v2 : Value, mW G y d (pc + 3) L st (mset M a (.inr (ci, .ref a :: v1 :: v2 :: .null :: .null :: .int 0 :: r))) t u Q) : mW G y d pc L (.ref a :: st) M t u Q := by
  intro p e R s m args below meth c C H locs ls cells slots hR hl hL
  obtain ⟨hO1, hO2, hO3, hO4, hO5, hO6⟩ := hO
  obtain ⟨hX1, hX2, hX3, hX4⟩ := hX
  obtain ⟨hT1, hT2, hT3, hT4⟩ := hT0
  obtain ⟨r9, hr9, ⟨cell, q1, q2, q3, q4, q5, q6⟩, hlen⟩ := hR.at hM
  have hr9' : mCl[ci]? = some r9 := hr9
  cases hr9'.symm.trans hci
  obtain ⟨hS, hfc, kC, hkC, hkind⟩ := C.cls hci
  dsimp only at q2 q4 hlen hS hfc
  have hap := mApart C hci hin hty hnm
  have sC : SlotIs s Bundle.tN "cause" "Ljava/lang/Throwable;" (mGi G ci 0) := by have := hS 0 (by omega); rw [hT1] at this; exact this
  have sS : SlotIs s Bundle.tN "stackTrace" Bundle.steD (mGi G ci 1) := by have := hS 1 (by omega); rw [hT2] at this; exact this
  have sP : SlotIs s Bundle.tN "suppressedExceptions" Bundle.listD (mGi G ci 2) := by have := hS 2 (by omega); rw [hT3] at this; exact this
  have sB : SlotIs s Bundle.tN "backtrace" "Ljava/lang/Object;" (mGi G ci 4) := by have := hS 4 (by omega); rw [hT4] at this; exact this
  intro T hT X
  have htr : e.platform.stackTraces = false := (show e.platform.stackTraces = (mGl G).stackTraces by rw [X.admits.platform]).trans C.kn.2.1
  have hzU := C.zq q449 q89 (mUns C.kn)
  have hzN := C.zq q451 q89 (mSup C.kn)
  have h9 : 2 * (F0 m pc ls st).monitorRoom + (st.map fun v => v.category).sum ≤ 8 := lv_room hr
  have gsz : ∀ {k : Nat}, k < N → mGi G ci k < cell.slots.size := fun h => k2_hasslot (q4 _ h)
  obtain ⟨V, v1, v2, L9, X', hLb, hV, stp⟩ := mx_ctor0 X C.hx htr C.own hX1 hX2 C.thr (fun a ha => C.tx (hX3 a ha)) (C.ts hlk) (C.ts hO1) (C.ts hO2) (vx_isRefq hzU.1) (vx_isRefq hzN.1) (C.ts q443) (C.ts q442) (C.ts hO3) (C.ts hO4) (C.ts hO5) (C.ts hO6) hzU.2 hl (a := a) hfc hkC hkind (cell := cell) (by rw [hT]; exact q1) q2 q3 q5 q6 hge sC sS sP sB (gsz (by omega)) (gsz (by omega)) (gsz (by omega)) (q4 4 (by omega))
    (g := F0 m pc ls (.ref a :: st)) rfl (by rw [C.ml]; exact hL.sz) rfl (by rw [C.hb]; exact hd) (by rw [C.room]; show names.length + 3 < 24 + d; omega)
    (by
      rw [C.room]
      show 2 * 0 + _ + _ ≤ 400 + 64 * d
      omega)
  have hlt : a < V.heap.size := by rw [hV, hT]; exact (Array.getElem?_eq_some_iff.mp q1).1
  have e5 : (V.setCell a ((((cell.setSlot (mGi G ci 0) (.ref a)).setSlot (mGi G ci 1) v1).setSlot (mGi G ci 2) v2).setSlot (mGi G ci 1) v1)).heap[a]? = some ((((cell.setSlot (mGi G ci 0) (.ref a)).setSlot (mGi G ci 1) v1).setSlot (mGi G ci 2) v2).setSlot (mGi G ci 1) v1) := heapAt_setCell_self _ hlt
  have hz5 : (V.setCell a ((((cell.setSlot (mGi G ci 0) (.ref a)).setSlot (mGi G ci 1) v1).setSlot (mGi G ci 2) v2).setSlot (mGi G ci 1) v1)).heap.size = H.size := by rw [size_setCell, hV, hT]
  have oq5 : ∀ q, q ≠ a → (V.setCell a ((((cell.setSlot (mGi G ci 0) (.ref a)).setSlot (mGi G ci 1) v1).setSlot (mGi G ci 2) v2).setSlot (mGi G ci 1) v1)).heap[q]? = H[q]? := fun q hq => by rw [heapAt_setCell_ne _ (Ne.symm hq), hV, hT]
  have w1 := t_set q4 hap (k := 0) (by omega) (.ref a)
  have w2 := t_set w1 hap (k := 1) (by omega) v1
  have w3 := t_set w2 hap (k := 2) (by omega) v2
  have w4 := t_set w3 hap (k := 1) (by omega) v1
  have hR2 := hR.put (a := a) (e := .inr (ci, .ref a :: v1 :: v2 :: .null :: .null :: .int 0 :: r)) hge q1 e5 (by simp [Cell.setSlot]) hz5 oq5 ⟨_, hci, ⟨_, e5, q2, q3, fun k hk => by
      rw [w4 k hk]
      congr 1
      match k with
      | 0 => rfl
      | 1 => rfl
      | 2 => rfl
      | k + 3 => simp [updV, vp_V], q5, q6⟩, by simpa using hlen⟩
  obtain ⟨t2, a1, b1⟩ := kk v1 v2 p e R s m args below meth c C _ _ ls _ _ hR2 (fun z hz => by
    rcases List.mem_append.mp hz with h | h
    · exact hl z h
    · rw [hLb z h]; exact hge) hL _ rfl X'
  exact ⟨t2, stp t2 a1, b1⟩
end MX1
