/-! ===== mj: the instructions on the memory (printed by src/gen_mem.py) ===== -/
/-- a field of class number ci, place k, by an entry of the pool of own -/
def mFS (own : String) (idx ci k : Nat) : Prop := ∃ (C : String) (T : u_T) (N : Nat), mCl[ci]? = some (C, T, N) ∧ k < N ∧ (∀ w ∈ u_ws C T N, w ∈ lw_all) ∧ (Cond.fieldLink own idx (T k).1 (T k).2.1 (T k).2.2.1 ∈ lw_all ∨ ∃ host, Cond.fieldLinkNest own idx (T k).1 (T k).2.1 (T k).2.2.1 host ∈ lw_tbl)
/-- .. that may be written: its type; final ones in their own constructor alone -/
def mFT (ci k : Nat) (ty : FieldType) (fin : Bool) : Prop := ∃ (C : String) (T : u_T) (N : Nat) (ty0 : Nat → FieldType), mCl[ci]? = some (C, T, N) ∧ k < N ∧ (∀ w ∈ u_ws C T N, w ∈ lw_all) ∧ (∀ k, k < N → parseFieldDescriptor (T k).2.2.1 = some (ty0 k)) ∧ (∀ a, a < N → ∀ b, b < N → a ≠ b → (T a).2.1 ≠ (T b).2.1) ∧ ty0 k = ty ∧ (T k).2.2.2 = fin
/-- a class that can be made -/
def mNS (own : String) (idx ci : Nat) (fs : List Value) : Prop := ∃ (C : String) (T : u_T) (N : Nat) (ty0 : Nat → FieldType), mCl[ci]? = some (C, T, N) ∧ (∀ w ∈ u_ws C T N, w ∈ lw_all) ∧ (∀ k, k < N → parseFieldDescriptor (T k).2.2.1 = some (ty0 k)) ∧ Cond.classLink own idx C ∈ lw_all ∧ Cond.instantiable C N ∈ lw_all ∧ Cond.initialized C ∈ lw_all ∧ fs = (List.range N).map (fun j => defaultValue (ty0 j))
section MMEM
variable {G : mG} {y : mY} {d pc : Nat} {L : List (Option Value)} {st : List Value} {M : mM} {t u : Nat} {Q : mQt}
theorem r_getf {i ci k a : Nat} {fs : List Value} {v : Value} (hs : mFS (mYn y).cls i ci k) (hM : M a = some (.inr (ci, fs))) (hv : fs[k]? = some v) (hd : decode (mYc y) pc = .ok (.getfield i, 3)) (kk : mW G y d (pc + 3) L (v :: st) M t u Q) : mW G y d pc L (.ref a :: st) M t u Q := by
  intro p e R s m args below meth c C H locs ls cells slots hR hl hL
  obtain ⟨C0, T, N, hc, hk, hin, hlink⟩ := hs
  obtain ⟨r, h1, ⟨cell, q1, q2, q3, q4, q5⟩, -⟩ := hR.at hM
  have h1' : mCl[ci]? = some r := h1
  cases h1'.symm.trans hc
  obtain ⟨hS, hfc, kC, hkC, hkind⟩ := C.cls hc
  obtain ⟨cf, kf, fi, f, hi, hsl⟩ := hS k hk
  have hkn : cell.vm ≠ .unknown := by rw [q3]; exact fun h => by cases h
  have hst := (u_facts hfc hkC (u_lays C.tz hin hk) hi).1
  have hslot : cell.slots[f.slot]? = some v := by
    rw [hsl, q4 k hk]
    simp [vp_V, hv]
  have K := kk p e R s m args below meth c C H locs ls cells slots hR hl hL
  rcases hlink with h | ⟨host, h⟩
  · exact W.getf C.hx C.hb C.own (C.ts h) hi hst q1 hkn hslot (g := F0 m pc ls (.ref a :: st)) rfl rfl hd K
  · exact va_Wgetf C.hx C.hb C.own (C.fieldN h) hi hst q1 hkn hslot (g := F0 m pc ls (.ref a :: st)) rfl rfl hd K
theorem mApart {p : Program} {e : Env} {R : Room} {s : State} {m : MethodId} {args : Array Value} {below : List Frame} {meth : Method} {c : Code} (C : mCtx G y d p e R s m args below meth c) {C0 : String} {T : u_T} {N ci : Nat} {ty0 : Nat → FieldType} (hc : mCl[ci]? = some (C0, T, N)) (hin : ∀ w ∈ u_ws C0 T N, w ∈ lw_all) (hty : ∀ k, k < N → parseFieldDescriptor (T k).2.2.1 = some (ty0 k)) (hnm : ∀ a, a < N → ∀ b, b < N → a ≠ b → (T a).2.1 ≠ (T b).2.1) :
    ∀ x y, x < N → y < N → x ≠ y → mGi G ci x ≠ mGi G ci y := by
  intro x y hx hy hne
  obtain ⟨hS, -⟩ := C.cls hc
  obtain ⟨_, _, _, fa, hia, ea⟩ := hS x hx
  obtain ⟨_, _, _, fb, hib, eb⟩ := hS y hy
  rw [← ea, ← eb]
  refine u_apart (u_lays C.tz hin hx) (u_lays C.tz hin hy) hia hib ?_
  rw [(State.fieldFound?_type hia (hty x hx)).1, (State.fieldFound?_type hib (hty y hy)).1]
  exact hnm x hx y hy hne
theorem mPutObj {H H1 : Heap} {a ci k N : Nat} {fs : List Value} {v : Value} {cell : Cell} {r : vw_C} (hR : mRep G M t u H) (hge : mGb G ≤ a) (hc : mCl[ci]? = some r) (hN : r.2.2 = N) (hlen : fs.length = N) (hk : k < N) (q1 : H[a]? = some cell) (q2 : cell.cls = mGc G ci) (q3 : cell.vm = .none) (q4 : ∀ k, k < N → cell.slots[mGi G ci k]? = some (vp_V fs k)) (q5 : cell.monitor.owner = none ∧ cell.monitor.count = 0) (hap : ∀ x y, x < N → y < N → x ≠ y → mGi G ci x ≠ mGi G ci y)
    (e1 : H1[a]? = some (cell.setSlot (mGi G ci k) v)) (e2 : H1.size = H.size) (e3 : ∀ q, q ≠ a → H1[q]? = H[q]?) : mRep G (mset M a (.inr (ci, fs.set k v))) t u H1 := by
  subst hN
  refine hR.put hge q1 e1 (by simp [Cell.setSlot]) e2 e3 ⟨r, hc, mOB.to (V := updV (vp_V fs) k v) ⟨_, e1, q2, q3, t_set q4 hap hk v, q5⟩ (fun j _ => vp_updV_set (by omega) v j), by simp [hlen]⟩
theorem r_putf {i ci k a : Nat} {fs : List Value} {v : Value} {ty : FieldType} (hs : mFS (mYn y).cls i ci k) (hT : mFT ci k ty false) (hM : M a = some (.inr (ci, fs))) (hge : mGb G ≤ a) (hn : narrow ty v = v) (hf : fits ty v = true) (hd : decode (mYc y) pc = .ok (.putfield i, 3)) (kk : mW G y d (pc + 3) L st (mset M a (.inr (ci, fs.set k v))) t u Q) : mW G y d pc L (v :: .ref a :: st) M t u Q := by
  intro p e R s m args below meth c C H locs ls cells slots hR hl hL
  obtain ⟨C0, T, N, hc, hk, hin, hlink⟩ := hs
  obtain ⟨C1, T1, N1, ty0, hc1, hk1, -, hty, hnm, rfl, hfin⟩ := hT
  cases hc.symm.trans hc1
  obtain ⟨r, h1, ⟨cell, q1, q2, q3, q4, q5⟩, hlen⟩ := hR.at hM
  have h1' : mCl[ci]? = some r := h1
  cases h1'.symm.trans hc
  have hap := mApart C hc hin hty hnm
  obtain ⟨hS, hfc, kC, hkC, hkind⟩ := C.cls hc
  obtain ⟨cf, kf, fi, f, hi, hsl⟩ := hS k hk
  have hlay := C.ts (hin _ (u_in_lay hk))
  unfold u_lay at hlay
  rw [if_neg (by rw [hfin]; decide)] at hlay
  have hst := (u_facts hfc hkC (u_lays C.tz hin hk) hi).1
  have h6 := u_store hfc hkC hkind hlay hi (hty k hk) hn hf
  have hlt : f.slot < cell.slots.size := by rw [hsl]; exact k2_hasslot (q4 k hk)
  have K : ∀ H' : Heap, H'[a]? = some (cell.setSlot f.slot v) → H'.size = H.size → (∀ q, q ≠ a → H'[q]? = H[q]?) → W p (mGl G) e R s m args below meth c H' (locs ++ [⟨a, f.slot⟩]) cells slots (mMQ G below Q s) (F0 m (pc + 3) ls st) := by
    intro H1 e1 e2 e3
    rw [hsl] at e1
    exact kk p e R s m args below meth c C H1 _ ls cells slots (mPutObj hR hge hc rfl hlen hk q1 q2 q3 q4 q5 hap e1 e2 e3) (t_lc hl hge) hL
  rcases hlink with h | ⟨host, h⟩
  · exact W.putK C.hx C.hb (f := f) ⟨C.own, C.ts h, ⟨_, _, _, hi⟩, hst⟩ (by rw [q2]; exact h6) q1 q3 hlt (g := F0 m pc ls (v :: .ref a :: st)) rfl rfl hd K
  · exact va_WputK C.hx C.hb C.own (C.fieldN h) hi hst (by rw [q2]; exact h6) q1 q3 hlt (g := F0 m pc ls (v :: .ref a :: st)) rfl rfl hd K
theorem r_putF {i ci k a : Nat} {fs : List Value} {v : Value} {ty : FieldType} (hs : mFS (mYn y).cls i ci k) (hT : mFT ci k ty true) (hown : ∀ (C : String) (T : u_T) (N : Nat), mCl[ci]? = some (C, T, N) → (T k).1 = (mYn y).cls) (hlk : ∀ host fd fn ft, Cond.fieldLinkNest (mYn y).cls i fd fn ft host ∉ lw_tbl ∨ True) (hin2 : (mYn y).name = "<init>") (hM : M a = some (.inr (ci, fs))) (hge : mGb G ≤ a) (hn : narrow ty v = v) (hf : fits ty v = true) (hd : decode (mYc y) pc = .ok (.putfield i, 3))
    (hlink0 : ∀ (C : String) (T : u_T) (N : Nat), mCl[ci]? = some (C, T, N) → Cond.fieldLink (mYn y).cls i (T k).1 (T k).2.1 (T k).2.2.1 ∈ lw_all) (kk : mW G y d (pc + 3) L st (mset M a (.inr (ci, fs.set k v))) t u Q) : mW G y d pc L (v :: .ref a :: st) M t u Q := by
  intro p e R s m args below meth c C H locs ls cells slots hR hl hL
  obtain ⟨C0, T, N, hc, hk, hin, -⟩ := hs
  have hlink := hlink0 C0 T N hc
  have hdecl := hown C0 T N hc
  obtain ⟨C1, T1, N1, ty0, hc1, hk1, -, hty, hnm, rfl, hfin⟩ := hT
  cases hc.symm.trans hc1
  obtain ⟨r, h1, ⟨cell, q1, q2, q3, q4, q5⟩, hlen⟩ := hR.at hM
  have h1' : mCl[ci]? = some r := h1
  cases h1'.symm.trans hc
  have hap := mApart C hc hin hty hnm
  obtain ⟨hS, hfc, kC, hkC, hkind⟩ := C.cls hc
  obtain ⟨cf, kf, fi, f, hi, hsl⟩ := hS k hk
  have hlay := C.ts (hin _ (u_in_lay hk))
  unfold u_lay at hlay
  rw [if_pos hfin] at hlay
  have hst := (u_facts hfc hkC (u_lays C.tz hin hk) hi).1
  have hcf : m.cls = cf := by
    obtain ⟨_, _, c', _, _, _, -, -, hf', -, -, -, hown2, -⟩ := Cond.laysFinal_spec hlay
    have e1 : c' = cf := by have := hi.symm.trans hf'; simp at this; exact this.1.symm
    rw [hdecl] at hown2
    rw [← e1]; exact Option.some.inj (C.own.symm.trans hown2)
  have h6 := u_fits hfc hkC hkind (Or.inr hlay) hi (hty k hk) hn hf
  have hlt : f.slot < cell.slots.size := by rw [hsl]; exact k2_hasslot (q4 k hk)
  refine W.putFinK C.hx C.hb C.own (C.ts hlink) hi hst hcf (C.nam.trans hin2) (by rw [q2]; exact h6) q1 q3 hlt (g := F0 m pc ls (v :: .ref a :: st)) rfl rfl hd ?_
  intro H1 e1 e2 e3
  rw [hsl] at e1
  exact kk p e R s m args below meth c C H1 _ ls cells slots (mPutObj hR hge hc rfl hlen hk q1 q2 q3 q4 q5 hap e1 e2 e3) (t_lc hl hge) hL
theorem mBorn {ws : List Cond} {s : State} {args : Array Value} {C : String} {T : u_T} {N : Nat} {cC : ClassId} {iS : Nat → Nat} {kC : Class} {o : Nat} {H : Heap} (ty : Nat → FieldType) (hts : ∀ w ∈ ws, w.before args s = true) (hin : ∀ w ∈ u_ws C T N, w ∈ ws)
    (hK : u_Kn s C T N cC iS) (hkC : s.vm.classes[cC]? = some kC) (hcell : H[o]? = some (blank cC kC)) (hty : ∀ k, k < N → parseFieldDescriptor (T k).2.2.1 = some (ty k)) : mOB o cC N iS H (fun k => defaultValue (ty k)) := by
  obtain ⟨cell, h1, h2, h3, h4⟩ := u_born ty hts hin hK hkC hcell hty
  rw [hcell] at h1
  cases h1
  exact ⟨_, hcell, h2, h3, h4, rfl, rfl⟩
theorem r_new {i ci N : Nat} {fs : List Value} (hs : mNS (mYn y).cls i ci fs) (hN : fs.length = N) (ht : t + 1 ≤ mGT G) (hu : u + N ≤ mGU G) (hd : decode (mYc y) pc = .ok (.new i, 3)) (kk : mW G y d (pc + 3) L (.ref t :: st) (mset M t (.inr (ci, fs))) (t + 1) (u + N) Q) : mW G y d pc L st M t u Q := by
  intro p e R s m args below meth c C H locs ls cells slots hR hl hL
  refine mGrown fun hg1 hg2 => mTight hR.1 hR.2.1 ?_
  obtain ⟨C0, T, N0, ty0, hc, hin, hty, hcl, hins, hini, hfs⟩ := hs
  have hN0 : N = N0 := by rw [← hN, hfs]; simp
  subst hN0
  have hKn := C.cls hc
  have h1 := hR.1
  have h2 := hR.2.1
  obtain ⟨kC9, cC9, hh1, hh2, hh3, hh4⟩ := Cond.instantiable_spec (C.ts hins)
  refine W.newcK C.hx C.hb C.own (C.ts hcl) (C.ts hins) (C.ts hini) (g := F0 m pc ls st) rfl hd ?_ ?_ hKn.2.1 h1 fun H1 kC hkC e1 z1 o1 => ?_
  · rw [C.room]; show t - s.heap.size + 1 ≤ mGT G - s.heap.size; omega
  · rw [C.room]; show u - slotSum s.heap + N ≤ mGU G - slotSum s.heap; omega
  · have hsz : (blank (mGc G ci) kC).slots.size = N := by
      cases hh1.symm.trans hKn.2.1
      cases hh2.symm.trans hkC
      simp [blank, hh4]
    refine kk p e R s m args below meth c C H1 locs ls _ _ (hR.new e1 hsz z1 o1 ht hu ⟨_, hc, (mBorn ty0 C.tz hin hKn hkC e1 hty).to (fun j hj => ?_), hN⟩) hl hL
    rw [hfs]
    simp [vp_V, List.getD_eq_getElem?_getD, hj]
theorem r_newa {τ : Nat} {atype : ArrayType} {n : Int32} {N : Nat} {ty : FieldType} (hτ : mTy[τ]? = some ty) (hty : newarray.typeOf atype = ty) (hw : Cond.arrayClass ty ∈ lw_all) (hn : ¬ n < 0) (hN : n.toNatClampNeg = N) (hbytes : N * componentBytes ty ≤ 536870912) (ht : t + 1 ≤ mGT G) (hu : u + N ≤ mGU G) (hd : decode (mYc y) pc = .ok (.newarray atype, 2))
    (kk : mW G y d (pc + 2) L (.ref t :: st) (mset M t (.inl (τ, N, fun _ => defaultValue ty))) (t + 1) (u + N) Q) : mW G y d pc L (.int n :: st) M t u Q := by
  subst hty
  intro p e R s m args below meth c C H locs ls cells slots hR hl hL
  refine mGrown fun hg1 hg2 => mTight hR.1 hR.2.1 ?_
  have h1 := hR.1
  have h2 := hR.2.1
  refine va_newaK C.hx C.hb (C.ts hw) (g := F0 m pc ls (.int n :: st)) rfl hd rfl hn hN hbytes ?_ ?_ h1 fun H1 cA e1 z1 o1 hA hf => ?_
  · rw [C.room]; show t - s.heap.size + 1 ≤ mGT G - s.heap.size; omega
  · rw [C.room]; show u - slotSum s.heap + N ≤ mGU G - slotSum s.heap; omega
  · have hc : cA = mGa G τ := Option.some.inj (hf.symm.trans (C.arr hτ).2.1)
    subst hc
    exact kk p e R s m args below meth c C H1 locs ls _ _ (hR.new e1 (arrV_size _ _ _) z1 o1 ht hu e1) hl hL
theorem r_alen {τ n a : Nat} {f : Nat → Value} {ty : FieldType} (hM : M a = some (.inl (τ, n, f))) (hτ : mTy[τ]? = some ty) (hd : decode (mYc y) pc = .ok (.arraylength, 1)) (kk : mW G y d (pc + 1) L (.int (nI n) :: st) M t u Q) : mW G y d pc L (.ref a :: st) M t u Q := by
  intro p e R s m args below meth c C H locs ls cells slots hR hl hL
  exact W.alen (n := nI n) C.hx C.hb (hR.at hM) ((C.arr hτ).1 n f) (by rw [arrV_size]; rfl) (g := F0 m pc ls (.ref a :: st)) rfl rfl hd (kk p e R s m args below meth c C H locs ls cells slots hR hl hL)
theorem mPutArr {H H1 : Heap} {τ n a j : Nat} {f : Nat → Value} {v : Value} (hR : mRep G M t u H) (hM : M a = some (.inl (τ, n, f))) (hge : mGb G ≤ a) (e1 : H1[a]? = some ((arrV (mGa G τ) n f).setSlot j v)) (e2 : H1.size = H.size) (e3 : ∀ q, q ≠ a → H1[q]? = H[q]?) : mRep G (mset M a (.inl (τ, n, updV f j v))) t u H1 :=
  hR.put hge (hR.at hM) e1 (by simp [Cell.setSlot]) e2 e3 (by show H1[a]? = some (arrV _ _ _); rw [e1, arrV_store])
theorem r_iald {τ n a : Nat} {f : Nat → Value} {i : Int32} (hM : M a = some (.inl (τ, n, f))) (hτ : mTy[τ]? = some .int) (hi : vp_in i n) (hd : decode (mYc y) pc = .ok (.iaload, 1)) (kk : mW G y d (pc + 1) L (f i.toNatClampNeg :: st) M t u Q) : mW G y d pc L (.int i :: .ref a :: st) M t u Q := by
  intro p e R s m args below meth c C H locs ls cells slots hR hl hL
  have hlt : i.toNatClampNeg < n := Nat.not_le.mp fun q => hi (Or.inr q)
  exact W.iald (v := f i.toNatClampNeg) C.hx C.hb (hR.at hM) ((C.arr hτ).1 n f) (fun q => by cases q) (by show ¬ (i < 0 ∨ (arrV _ _ _).slots.size ≤ _); rw [arrV_size]; exact hi) (by show (arrV _ _ _).slots[_]? = _; rw [arrV_read _ _ hlt]) (g := F0 m pc ls (.int i :: .ref a :: st)) rfl rfl hd (kk p e R s m args below meth c C H locs ls cells slots hR hl hL)
theorem r_bald {τ n a : Nat} {f : Nat → Value} {i : Int32} (hM : M a = some (.inl (τ, n, f))) (hτ : mTy[τ]? = some .byte) (hi : vp_in i n) (hd : decode (mYc y) pc = .ok (.baload, 1)) (kk : mW G y d (pc + 1) L (f i.toNatClampNeg :: st) M t u Q) : mW G y d pc L (.int i :: .ref a :: st) M t u Q := by
  intro p e R s m args below meth c C H locs ls cells slots hR hl hL
  have hlt : i.toNatClampNeg < n := Nat.not_le.mp fun q => hi (Or.inr q)
  exact W.bald (v := f i.toNatClampNeg) C.hx C.hb (hR.at hM) ((C.arr hτ).1 n f) (fun q => by cases q) (by show ¬ (i < 0 ∨ (arrV _ _ _).slots.size ≤ _); rw [arrV_size]; exact hi) (by show (arrV _ _ _).slots[_]? = _; rw [arrV_read _ _ hlt]) (g := F0 m pc ls (.int i :: .ref a :: st)) rfl rfl hd (kk p e R s m args below meth c C H locs ls cells slots hR hl hL)
theorem r_zald {τ n a : Nat} {f : Nat → Value} {i : Int32} (hM : M a = some (.inl (τ, n, f))) (hτ : mTy[τ]? = some .boolean) (hi : vp_in i n) (hd : decode (mYc y) pc = .ok (.baload, 1)) (kk : mW G y d (pc + 1) L (f i.toNatClampNeg :: st) M t u Q) : mW G y d pc L (.int i :: .ref a :: st) M t u Q := by
  intro p e R s m args below meth c C H locs ls cells slots hR hl hL
  have hlt : i.toNatClampNeg < n := Nat.not_le.mp fun q => hi (Or.inr q)
  exact W.zald (v := f i.toNatClampNeg) C.hx C.hb (hR.at hM) ((C.arr hτ).1 n f) (fun q => by cases q) (by show ¬ (i < 0 ∨ (arrV _ _ _).slots.size ≤ _); rw [arrV_size]; exact hi) (by show (arrV _ _ _).slots[_]? = _; rw [arrV_read _ _ hlt]) (g := F0 m pc ls (.int i :: .ref a :: st)) rfl rfl hd (kk p e R s m args below meth c C H locs ls cells slots hR hl hL)
theorem r_cald {τ n a : Nat} {f : Nat → Value} {i : Int32} (hM : M a = some (.inl (τ, n, f))) (hτ : mTy[τ]? = some .char) (hi : vp_in i n) (hd : decode (mYc y) pc = .ok (.caload, 1)) (kk : mW G y d (pc + 1) L (f i.toNatClampNeg :: st) M t u Q) : mW G y d pc L (.int i :: .ref a :: st) M t u Q := by
  intro p e R s m args below meth c C H locs ls cells slots hR hl hL
  have hlt : i.toNatClampNeg < n := Nat.not_le.mp fun q => hi (Or.inr q)
  exact W.cald (v := f i.toNatClampNeg) C.hx C.hb (hR.at hM) ((C.arr hτ).1 n f) (fun q => by cases q) (by show ¬ (i < 0 ∨ (arrV _ _ _).slots.size ≤ _); rw [arrV_size]; exact hi) (by show (arrV _ _ _).slots[_]? = _; rw [arrV_read _ _ hlt]) (g := F0 m pc ls (.int i :: .ref a :: st)) rfl rfl hd (kk p e R s m args below meth c C H locs ls cells slots hR hl hL)
theorem r_lald {τ n a : Nat} {f : Nat → Value} {i : Int32} (hM : M a = some (.inl (τ, n, f))) (hτ : mTy[τ]? = some .long) (hi : vp_in i n) (hd : decode (mYc y) pc = .ok (.laload, 1)) (kk : mW G y d (pc + 1) L (f i.toNatClampNeg :: st) M t u Q) : mW G y d pc L (.int i :: .ref a :: st) M t u Q := by
  intro p e R s m args below meth c C H locs ls cells slots hR hl hL
  have hlt : i.toNatClampNeg < n := Nat.not_le.mp fun q => hi (Or.inr q)
  exact W.lald (v := f i.toNatClampNeg) C.hx C.hb (hR.at hM) ((C.arr hτ).1 n f) (fun q => by cases q) (by show ¬ (i < 0 ∨ (arrV _ _ _).slots.size ≤ _); rw [arrV_size]; exact hi) (by show (arrV _ _ _).slots[_]? = _; rw [arrV_read _ _ hlt]) (g := F0 m pc ls (.int i :: .ref a :: st)) rfl rfl hd (kk p e R s m args below meth c C H locs ls cells slots hR hl hL)
theorem r_fald {τ n a : Nat} {f : Nat → Value} {i : Int32} (hM : M a = some (.inl (τ, n, f))) (hτ : mTy[τ]? = some .float) (hi : vp_in i n) (hd : decode (mYc y) pc = .ok (.faload, 1)) (kk : mW G y d (pc + 1) L (f i.toNatClampNeg :: st) M t u Q) : mW G y d pc L (.int i :: .ref a :: st) M t u Q := by
  intro p e R s m args below meth c C H locs ls cells slots hR hl hL
  have hlt : i.toNatClampNeg < n := Nat.not_le.mp fun q => hi (Or.inr q)
  exact W.fald (v := f i.toNatClampNeg) C.hx C.hb (hR.at hM) ((C.arr hτ).1 n f) (fun q => by cases q) (by show ¬ (i < 0 ∨ (arrV _ _ _).slots.size ≤ _); rw [arrV_size]; exact hi) (by show (arrV _ _ _).slots[_]? = _; rw [arrV_read _ _ hlt]) (g := F0 m pc ls (.int i :: .ref a :: st)) rfl rfl hd (kk p e R s m args below meth c C H locs ls cells slots hR hl hL)
theorem r_dald {τ n a : Nat} {f : Nat → Value} {i : Int32} (hM : M a = some (.inl (τ, n, f))) (hτ : mTy[τ]? = some .double) (hi : vp_in i n) (hd : decode (mYc y) pc = .ok (.daload, 1)) (kk : mW G y d (pc + 1) L (f i.toNatClampNeg :: st) M t u Q) : mW G y d pc L (.int i :: .ref a :: st) M t u Q := by
  intro p e R s m args below meth c C H locs ls cells slots hR hl hL
  have hlt : i.toNatClampNeg < n := Nat.not_le.mp fun q => hi (Or.inr q)
  exact W.dald (v := f i.toNatClampNeg) C.hx C.hb (hR.at hM) ((C.arr hτ).1 n f) (fun q => by cases q) (by show ¬ (i < 0 ∨ (arrV _ _ _).slots.size ≤ _); rw [arrV_size]; exact hi) (by show (arrV _ _ _).slots[_]? = _; rw [arrV_read _ _ hlt]) (g := F0 m pc ls (.int i :: .ref a :: st)) rfl rfl hd (kk p e R s m args below meth c C H locs ls cells slots hR hl hL)
theorem r_aald {τ n a : Nat} {f : Nat → Value} {i : Int32} {ty : FieldType} (hM : M a = some (.inl (τ, n, f))) (hτ : mTy[τ]? = some ty) (hty : ty.isReference = true) (hi : vp_in i n) (hd : decode (mYc y) pc = .ok (.aaload, 1)) (kk : mW G y d (pc + 1) L (f i.toNatClampNeg :: st) M t u Q) : mW G y d pc L (.int i :: .ref a :: st) M t u Q := by
  intro p e R s m args below meth c C H locs ls cells slots hR hl hL
  have hlt : i.toNatClampNeg < n := Nat.not_le.mp fun q => hi (Or.inr q)
  exact W.aald (v := f i.toNatClampNeg) C.hx C.hb (hR.at hM) ((C.arr hτ).1 n f) hty (fun q => by cases q) (by show ¬ (i < 0 ∨ (arrV _ _ _).slots.size ≤ _); rw [arrV_size]; exact hi) (by show (arrV _ _ _).slots[_]? = _; rw [arrV_read _ _ hlt]) (g := F0 m pc ls (.int i :: .ref a :: st)) rfl rfl hd (kk p e R s m args below meth c C H locs ls cells slots hR hl hL)
theorem r_iast {τ n a : Nat} {f : Nat → Value} {i : Int32} {x : Int32} (hM : M a = some (.inl (τ, n, f))) (hτ : mTy[τ]? = some .int) (hi : vp_in i n) (hge : mGb G ≤ a) (hd : decode (mYc y) pc = .ok (.iastore, 1)) (kk : mW G y d (pc + 1) L st (mset M a (.inl (τ, n, updV f i.toNatClampNeg (.int x)))) t u Q) : mW G y d pc L (.int x :: .int i :: .ref a :: st) M t u Q := by
  intro p e R s m args below meth c C H locs ls cells slots hR hl hL
  refine W.iast C.hx C.hb (hR.at hM) ((C.arr hτ).1 n f) (fun q => by cases q) (by show ¬ (i < 0 ∨ (arrV _ _ _).slots.size ≤ _); rw [arrV_size]; exact hi) (g := F0 m pc ls (.int x :: .int i :: .ref a :: st)) rfl rfl hd fun H1 e1 z oq => ?_
  skip
  exact kk p e R s m args below meth c C H1 _ ls cells slots (mPutArr hR hM hge e1 z oq) (t_lc hl hge) hL
theorem r_bast {τ n a : Nat} {f : Nat → Value} {i : Int32} {x : Int32} (hM : M a = some (.inl (τ, n, f))) (hτ : mTy[τ]? = some .byte) (hi : vp_in i n) (hge : mGb G ≤ a) (hn : narrow .byte (.int x) = .int x) (hd : decode (mYc y) pc = .ok (.bastore, 1)) (kk : mW G y d (pc + 1) L st (mset M a (.inl (τ, n, updV f i.toNatClampNeg (.int x)))) t u Q) : mW G y d pc L (.int x :: .int i :: .ref a :: st) M t u Q := by
  intro p e R s m args below meth c C H locs ls cells slots hR hl hL
  refine W.bast C.hx C.hb (hR.at hM) ((C.arr hτ).1 n f) (fun q => by cases q) (by show ¬ (i < 0 ∨ (arrV _ _ _).slots.size ≤ _); rw [arrV_size]; exact hi) (g := F0 m pc ls (.int x :: .int i :: .ref a :: st)) rfl rfl hd fun H1 e1 z oq => ?_
  rw [hn] at e1
  exact kk p e R s m args below meth c C H1 _ ls cells slots (mPutArr hR hM hge e1 z oq) (t_lc hl hge) hL
theorem r_zast {τ n a : Nat} {f : Nat → Value} {i : Int32} {x : Int32} (hM : M a = some (.inl (τ, n, f))) (hτ : mTy[τ]? = some .boolean) (hi : vp_in i n) (hge : mGb G ≤ a) (hn : narrow .boolean (.int x) = .int x) (hd : decode (mYc y) pc = .ok (.bastore, 1)) (kk : mW G y d (pc + 1) L st (mset M a (.inl (τ, n, updV f i.toNatClampNeg (.int x)))) t u Q) : mW G y d pc L (.int x :: .int i :: .ref a :: st) M t u Q := by
  intro p e R s m args below meth c C H locs ls cells slots hR hl hL
  refine W.zast C.hx C.hb (hR.at hM) ((C.arr hτ).1 n f) (fun q => by cases q) (by show ¬ (i < 0 ∨ (arrV _ _ _).slots.size ≤ _); rw [arrV_size]; exact hi) (g := F0 m pc ls (.int x :: .int i :: .ref a :: st)) rfl rfl hd fun H1 e1 z oq => ?_
  rw [hn] at e1
  exact kk p e R s m args below meth c C H1 _ ls cells slots (mPutArr hR hM hge e1 z oq) (t_lc hl hge) hL
theorem r_cast {τ n a : Nat} {f : Nat → Value} {i : Int32} {x : Int32} (hM : M a = some (.inl (τ, n, f))) (hτ : mTy[τ]? = some .char) (hi : vp_in i n) (hge : mGb G ≤ a) (hn : narrow .char (.int x) = .int x) (hd : decode (mYc y) pc = .ok (.castore, 1)) (kk : mW G y d (pc + 1) L st (mset M a (.inl (τ, n, updV f i.toNatClampNeg (.int x)))) t u Q) : mW G y d pc L (.int x :: .int i :: .ref a :: st) M t u Q := by
  intro p e R s m args below meth c C H locs ls cells slots hR hl hL
  refine W.cast C.hx C.hb (hR.at hM) ((C.arr hτ).1 n f) (fun q => by cases q) (by show ¬ (i < 0 ∨ (arrV _ _ _).slots.size ≤ _); rw [arrV_size]; exact hi) (g := F0 m pc ls (.int x :: .int i :: .ref a :: st)) rfl rfl hd fun H1 e1 z oq => ?_
  rw [hn] at e1
  exact kk p e R s m args below meth c C H1 _ ls cells slots (mPutArr hR hM hge e1 z oq) (t_lc hl hge) hL
theorem r_last {τ n a : Nat} {f : Nat → Value} {i : Int32} {x : Int64} (hM : M a = some (.inl (τ, n, f))) (hτ : mTy[τ]? = some .long) (hi : vp_in i n) (hge : mGb G ≤ a) (hd : decode (mYc y) pc = .ok (.lastore, 1)) (kk : mW G y d (pc + 1) L st (mset M a (.inl (τ, n, updV f i.toNatClampNeg (.long x)))) t u Q) : mW G y d pc L (.long x :: .int i :: .ref a :: st) M t u Q := by
  intro p e R s m args below meth c C H locs ls cells slots hR hl hL
  refine W.last C.hx C.hb (hR.at hM) ((C.arr hτ).1 n f) (fun q => by cases q) (by show ¬ (i < 0 ∨ (arrV _ _ _).slots.size ≤ _); rw [arrV_size]; exact hi) (g := F0 m pc ls (.long x :: .int i :: .ref a :: st)) rfl rfl hd fun H1 e1 z oq => ?_
  skip
  exact kk p e R s m args below meth c C H1 _ ls cells slots (mPutArr hR hM hge e1 z oq) (t_lc hl hge) hL
theorem r_fast {τ n a : Nat} {f : Nat → Value} {i : Int32} {x : UInt32} (hM : M a = some (.inl (τ, n, f))) (hτ : mTy[τ]? = some .float) (hi : vp_in i n) (hge : mGb G ≤ a) (hd : decode (mYc y) pc = .ok (.fastore, 1)) (kk : mW G y d (pc + 1) L st (mset M a (.inl (τ, n, updV f i.toNatClampNeg (.float x)))) t u Q) : mW G y d pc L (.float x :: .int i :: .ref a :: st) M t u Q := by
  intro p e R s m args below meth c C H locs ls cells slots hR hl hL
  refine W.fast C.hx C.hb (hR.at hM) ((C.arr hτ).1 n f) (fun q => by cases q) (by show ¬ (i < 0 ∨ (arrV _ _ _).slots.size ≤ _); rw [arrV_size]; exact hi) (g := F0 m pc ls (.float x :: .int i :: .ref a :: st)) rfl rfl hd fun H1 e1 z oq => ?_
  skip
  exact kk p e R s m args below meth c C H1 _ ls cells slots (mPutArr hR hM hge e1 z oq) (t_lc hl hge) hL
theorem r_dast {τ n a : Nat} {f : Nat → Value} {i : Int32} {x : UInt64} (hM : M a = some (.inl (τ, n, f))) (hτ : mTy[τ]? = some .double) (hi : vp_in i n) (hge : mGb G ≤ a) (hd : decode (mYc y) pc = .ok (.dastore, 1)) (kk : mW G y d (pc + 1) L st (mset M a (.inl (τ, n, updV f i.toNatClampNeg (.double x)))) t u Q) : mW G y d pc L (.double x :: .int i :: .ref a :: st) M t u Q := by
  intro p e R s m args below meth c C H locs ls cells slots hR hl hL
  refine W.dast C.hx C.hb (hR.at hM) ((C.arr hτ).1 n f) (fun q => by cases q) (by show ¬ (i < 0 ∨ (arrV _ _ _).slots.size ≤ _); rw [arrV_size]; exact hi) (g := F0 m pc ls (.double x :: .int i :: .ref a :: st)) rfl rfl hd fun H1 e1 z oq => ?_
  skip
  exact kk p e R s m args below meth c C H1 _ ls cells slots (mPutArr hR hM hge e1 z oq) (t_lc hl hge) hL
end MMEM
