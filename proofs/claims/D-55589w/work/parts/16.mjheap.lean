/-! ===== mj: arrays of references, copies, clones, casts ===== -/
/-- the name of a cell's class -/
def mNE : mE → String
  | .inl x => "[" ++ ((mTy[x.1]?).getD .int).toString
  | .inr o => ((mCl[o.1]?).map (fun r => r.1)).getD ""
def mOk : mE → Prop
  | .inl x => ∃ ty, mTy[x.1]? = some ty
  | .inr _ => True
theorem mOk_a {τ n : Nat} {f : Nat → Value} {ty : FieldType} (h : mTy[τ]? = some ty) : mOk (.inl (τ, n, f)) := ⟨ty, h⟩
section MHEAP
variable {G : mG} {y : mY} {d pc : Nat} {L : List (Option Value)} {st : List Value} {M : mM} {t u : Nat} {Q : mQt}
theorem mRep.norm {H : Heap} {a τ n : Nat} {f g : Nat → Value} (hR : mRep G M t u H) (hM : M a = some (.inl (τ, n, f))) (h : ∀ j, j < n → f j = g j) : mRep G (mset M a (.inl (τ, n, g))) t u H := by
  obtain ⟨r1, r2, r3, r4, r5, r6, r7⟩ := hR
  refine ⟨r1, r2, r3, r4, r5, r6, fun b e hb => ?_⟩
  by_cases hba : b = a
  · subst hba
    rw [mset_eq] at hb
    cases hb
    have h1 : H[b]? = some (arrV (mGa G τ) n f) := r7 b _ hM
    have e1 : arrV (mGa G τ) n f = arrV (mGa G τ) n g := by
      unfold arrV
      congr 1
      apply Array.ext
      · simp
      · intro i h1 h2
        simp at h1
        simp [h i h1]
    show H[b]? = some (arrV (mGa G τ) n g)
    rw [← e1]; exact h1
  · rw [mset_ne hba] at hb
    exact r7 b e hb
/-- an array's contents matter below its length alone -/
theorem r_norm {a τ n : Nat} {f g : Nat → Value} (hM : M a = some (.inl (τ, n, f))) (h : ∀ j, j < n → f j = g j) (k : mW G y d pc L st (mset M a (.inl (τ, n, g))) t u Q) : mW G y d pc L st M t u Q := by
  intro p e R s m args below meth c C H locs ls cells slots hR hl hL
  exact k p e R s m args below meth c C H locs ls cells slots (hR.norm hM h) hl hL
theorem mset_mset {M : mM} {a : Nat} {e e' : mE} : mset (mset M a e) a e' = mset M a e' := by
  funext q
  by_cases h : q = a <;> simp [mset, h]
theorem mset_self {M : mM} {a : Nat} {e : mE} (h : M a = some e) : mset M a e = M := by
  funext q
  by_cases hq : q = a
  · subst hq; simp [mset, h]
  · simp [mset, hq]
theorem mset_comm {M : mM} {a b : Nat} {e e' : mE} (h : a ≠ b) : mset (mset M a e) b e' = mset (mset M b e') a e := by
  funext q
  by_cases h1 : q = a <;> by_cases h2 : q = b <;> simp_all [mset]
/-- the cell at a, by the name of its class -/
theorem mCell {H : Heap} {a : Nat} {e9 : mE} (hR : mRep G M t u H) (hM : M a = some e9) (ho : mOk e9) {p : Program} {e : Env} {R : Room} {s : State} {m : MethodId} {args : Array Value} {below : List Frame} {meth : Method} {c : Code} (C : mCtx G y d p e R s m args below meth c) :
    ∃ cell : Cell, H[a]? = some cell ∧ cell.vm = .none ∧ s.vm.findClass (mNE e9) = some cell.cls := by
  cases e9 with
  | inl x =>
    obtain ⟨ty, ht⟩ := ho
    have h1 := (C.arr ht).2.1
    have h2 : H[a]? = some (arrV (mGa G x.1) x.2.1 x.2.2) := hR.at hM
    refine ⟨_, h2, rfl, ?_⟩
    have ht' : mTy[x.1]? = some ty := ht
    simp only [mNE, ht', Option.getD_some]
    exact h1
  | inr o =>
    obtain ⟨r, h1, ⟨cell, h2, h3, h4, -⟩, -⟩ := hR.at hM
    have h1' : mCl[o.1]? = some r := h1
    refine ⟨cell, h2, h4, ?_⟩
    simp only [mNE, h1', Option.map_some, Option.getD_some]
    rw [h3]
    exact (C.cls h1').2.1
/-- what may be stored in an array over ty -/
def mFit (e9 : mE) (ty : FieldType) : Prop := mOk e9 ∧ (Cond.castable (mNE e9) (mNm ty) ∈ lw_tbl ∨ (mNE e9 = mNm ty ∧ ∃ o, e9 = .inr o) ∨
  ∃ (x : Nat × Nat × (Nat → Value)) (C C' : String) (ci : Nat) (T : u_T) (N : Nat), e9 = .inl x ∧ mTy[x.1]? = some (FieldType.object C) ∧ ty = FieldType.array (FieldType.object C') ∧ (∃ τ' : Nat, mTy[τ']? = some (FieldType.object C')) ∧ mCl[ci]? = some (C, T, N) ∧ Cond.castable C C' ∈ lw_tbl)
theorem assignable_obj {vm : Vm} {n : Nat} {a b : ClassId} {ka : Class} (hk : vm.classes[a]? = some ka) (hkind : ka.kind = .ordinary) (h : vm.assignable a b = true) : vm.assignableAux (n + 1) a b = true := by
  unfold Vm.assignable at h
  unfold Vm.assignableAux at h ⊢
  simp only [hk, hkind] at h ⊢
  cases hb : vm.classes[b]? with
  | none => simpa [hb] using h
  | some kb =>
    simp only [hb] at h ⊢
    cases hkb : kb.kind <;> simpa [hkb, hkind] using h
theorem mFit_asg {H : Heap} {a : Nat} {e9 : mE} {ty : FieldType} (hf : mFit e9 ty) {p : Program} {e : Env} {R : Room} {s : State} {m : MethodId} {args : Array Value} {below : List Frame} {meth : Method} {c : Code} (C : mCtx G y d p e R s m args below meth c) {c0 c1 : ClassId} (h0 : s.vm.findClass (mNE e9) = some c0) (h1 : s.vm.findClass (mNm ty) = some c1) : s.vm.assignable c0 c1 = true := by
  rcases hf.2 with h | ⟨h, o, rfl⟩ | ⟨x, C0, C1, ci, T, N, rfl, hx, rfl, ⟨τ', hτ'⟩, hci, hw⟩
  · obtain ⟨c3, c4, hc3, hc4, hasg⟩ := Cond.castable_spec (va_Nw.use (A := args) rfl (C.cast h))
    cases h0.symm.trans hc3
    cases h1.symm.trans hc4
    exact hasg
  · rw [h] at h0
    cases h0.symm.trans h1
    unfold Vm.assignable Vm.assignableAux
    simp
  · obtain ⟨c3, c4, hc3, hc4, hasg⟩ := Cond.castable_spec (va_Nw.use (A := args) rfl (C.cast hw))
    obtain ⟨-, hfc0, hr0⟩ := C.arr hx
    obtain ⟨kA, comp, q1, q2, q3⟩ := hr0 rfl
    have hx' : mTy[x.1]? = some (.object C0) := hx
    simp only [mNE, hx', Option.getD_some] at h0
    cases h0.symm.trans hfc0
    obtain ⟨-, hfc1, hr1⟩ := C.arr hτ'
    obtain ⟨kB, comp1, p1, p2, p3⟩ := hr1 rfl
    have hc1 : c1 = mGa G τ' := by
      have : s.vm.findClass ("[" ++ (FieldType.object C1).toString) = some c1 := h1
      exact Option.some.inj (this.symm.trans hfc1)
    subst hc1
    have e3 : comp = c3 := Option.some.inj ((show s.vm.findClass C0 = some comp from q3).symm.trans hc3)
    have e4 : comp1 = c4 := Option.some.inj ((show s.vm.findClass C1 = some comp1 from p3).symm.trans hc4)
    subst e3; subst e4
    obtain ⟨-, hfcC, kC, hkC, hkind⟩ := C.cls hci
    have e5 : comp = mGc G ci := Option.some.inj (hc3.symm.trans hfcC)
    subst e5
    have hin := assignable_obj (n := 254) hkC hkind hasg
    have hp1 : s.vm.isPrimitive (mGc G ci) = false := by
      unfold Vm.isPrimitive
      simp [hkC, hkind]
    have hp2 : s.vm.isPrimitive comp1 = false := by
      cases hb : s.vm.classes[comp1]? with
      | none => unfold Vm.isPrimitive; simp [hb]
      | some kb =>
        unfold Vm.isPrimitive
        unfold Vm.assignable Vm.assignableAux at hasg
        cases hkb : kb.kind <;> simp [hb, hkb]
        simp [hkC, hkind, hb, hkb] at hasg
        rw [hasg] at hkC
        rw [hb] at hkC
        cases hkC
        rw [hkind] at hkb
        cases hkb
    unfold Vm.assignable Vm.assignableAux
    simp [q1, q2, p1, p2, hp1, hp2, hin]
theorem r_aast {τ n a b k : Nat} {f : Nat → Value} {ty : FieldType} {e9 : mE} (hM : M a = some (.inl (τ, n, f))) (hτ : mTy[τ]? = some ty) (hty : ty.isReference = true) (hb : M b = some e9) (hf : mFit e9 ty) (hk : k < n) (hn : n < 2147483648) (hge : mGb G ≤ a) (hd : decode (mYc y) pc = .ok (.aastore, 1)) (kk : mW G y d (pc + 1) L st (mset M a (.inl (τ, n, updV f k (.ref b)))) t u Q) : mW G y d pc L (.ref b :: .int (nI k) :: .ref a :: st) M t u Q := by
  intro p e R s m args below meth c C H locs ls cells slots hR hl hL
  have hin := vp_in_n hk hn
  have hcl := nI_cl (show k < 2147483648 by omega)
  obtain ⟨-, -, hr⟩ := C.arr hτ
  obtain ⟨kA, comp, k1, k2, k3⟩ := hr hty
  obtain ⟨cellV, g1, g2, g3⟩ := mCell hR hb hf.1 C
  obtain ⟨kc, hkc, -⟩ := Vm.findClass_spec k3
  obtain ⟨kv, hkv, -⟩ := Vm.findClass_spec g3
  have hasg := mFit_asg (H := H) (a := a) hf C g3 k3
  refine W.aast C.hx C.hb (hR.at hM) (fun q h => by cases h) (fun h => by cases h) k1 k2 hty hkc ⟨nI_0l (by omega), by show _ < (arrV _ _ _).slots.size; rw [arrV_size, hcl]; exact hk⟩ g1 (fun q h => by rw [g2] at h; cases h) hkv hasg (g := F0 m pc ls (.ref b :: .int (nI k) :: .ref a :: st)) rfl rfl hd fun H1 e1 z oq => ?_
  rw [hcl] at e1
  exact kk p e R s m args below meth c C H1 _ ls cells slots (mPutArr hR hM hge e1 z oq) (t_lc hl hge) hL
theorem r_aastN {τ n a k : Nat} {f : Nat → Value} {C0 : String} (hM : M a = some (.inl (τ, n, f))) (hτ : mTy[τ]? = some (.object C0)) (hk : k < n) (hn : n < 2147483648) (hge : mGb G ≤ a) (hd : decode (mYc y) pc = .ok (.aastore, 1)) (kk : mW G y d (pc + 1) L st (mset M a (.inl (τ, n, updV f k .null))) t u Q) : mW G y d pc L (.null :: .int (nI k) :: .ref a :: st) M t u Q := by
  intro p e R s m args below meth c C H locs ls cells slots hR hl hL
  have hin := vp_in_n hk hn
  have hcl := nI_cl (show k < 2147483648 by omega)
  have h1 : H[a]? = some (arrV (mGa G τ) n f) := hR.at hM
  have hlt : a < H.size := (Array.getElem?_eq_some_iff.mp h1).1
  intro T hT X
  obtain ⟨X', st9⟩ := va_aastN0 X C.hx (a := a) (cell := arrV (mGa G τ) n f) (C := C0) (j := nI k) (by rw [hT]; exact h1) ((C.arr hτ).1 n f) (fun h => by cases h) (by rw [arrV_size]; exact hin) (g := F0 m pc ls (.null :: .int (nI k) :: .ref a :: st)) rfl rfl (by rw [C.hb]; exact hd)
  have e1 : (T.setCell a ((arrV (mGa G τ) n f).setSlot (nI k).toNatClampNeg .null)).heap[a]? = some ((arrV (mGa G τ) n f).setSlot k .null) := by
    rw [hcl]
    exact heapAt_setCell_self _ (by rw [hT]; exact hlt)
  obtain ⟨t2, a1, b1⟩ := kk p e R s m args below meth c C _ _ ls cells slots (mPutArr hR hM hge e1 (by rw [size_setCell, hT]) (fun q hq => by rw [heapAt_setCell_ne _ (Ne.symm hq), hT])) (t_lc hl hge) hL _ rfl X'
  exact ⟨t2, st9 t2 a1, b1⟩
theorem r_anew {τ : Nat} {i N : Nat} {C0 : String} (hτ : mTy[τ]? = some (.object C0)) (hw : Cond.classLink (mYn y).cls i C0 ∈ lw_all) (ho : Cond.arrayOver (.object C0) ∈ lw_tbl) (hN : N < 100000) (ht : t + 1 ≤ mGT G) (hu : u + N ≤ mGU G) (hd : decode (mYc y) pc = .ok (.anewarray i, 3))
    (kk : mW G y d (pc + 3) L (.ref t :: st) (mset M t (.inl (τ, N, fun _ => .null))) (t + 1) (u + N) Q) : mW G y d pc L (.int (nI N) :: st) M t u Q := by
  intro p e R s m args below meth c C H locs ls cells slots hR hl hL
  refine mGrown fun hg1 hg2 => mTight hR.1 hR.2.1 ?_
  have h1 := hR.1
  have h2 := hR.2.1
  have hcl := nI_cl (show N < 2147483648 by omega)
  have hao : (Cond.arrayOver (.object C0)).before args s = true := va_AO.use (va_AO.moved C.warm.alike (va_AO.of (C.kn.1 _ ho)))
  refine W.anew C.hx C.hb C.own (C.ts hw) hao (g := F0 m pc ls (.int (nI N) :: st)) rfl hd rfl (nI_0l (by omega)) (by rw [hcl]; omega) ?_ ?_ fun cA kA comp f1 f2 f3 f4 => ?_
  · rw [C.room]; show t - s.heap.size + 1 ≤ mGT G - s.heap.size; omega
  · rw [C.room, hcl]; show u - slotSum s.heap + N ≤ mGU G - slotSum s.heap; omega
  · rw [hcl]
    have hc : cA = mGa G τ := Option.some.inj (f1.symm.trans (C.arr hτ).2.1)
    subst hc
    have e1 : (H.push ({ cls := mGa G τ, slots := Array.replicate N .null, vm := .none } : Cell))[t]? = some (arrV (mGa G τ) N (fun _ => .null)) := by rw [← h1, Array.getElem?_push_size, ← arrV_new]
    have K := kk p e R s m args below meth c C _ locs ls (t - s.heap.size + 1) (u - slotSum s.heap + N) (hR.new e1 (arrV_size _ _ _) (by rw [Array.size_push, h1]) (fun q hq => by rw [Array.getElem?_push, if_neg (by omega)]) ht hu e1) hl hL
    rw [← h1] at K ⊢
    exact K
theorem r_anewA {τ : Nat} {i N : Nat} {t0 : FieldType} (hτ : mTy[τ]? = some (.array t0)) (hw : Cond.classLink (mYn y).cls i (FieldType.array t0).toString ∈ lw_all) (ho : Cond.arrayOver (.array t0) ∈ lw_tbl) (hN : N < 100000) (ht : t + 1 ≤ mGT G) (hu : u + N ≤ mGU G) (hd : decode (mYc y) pc = .ok (.anewarray i, 3))
    (kk : mW G y d (pc + 3) L (.ref t :: st) (mset M t (.inl (τ, N, fun _ => .null))) (t + 1) (u + N) Q) : mW G y d pc L (.int (nI N) :: st) M t u Q := by
  intro p e R s m args below meth c C H locs ls cells slots hR hl hL
  refine mGrown fun hg1 hg2 => mTight hR.1 hR.2.1 ?_
  have h1 := hR.1
  have h2 := hR.2.1
  have hcl := nI_cl (show N < 2147483648 by omega)
  have hao : (Cond.arrayOver (.array t0)).before args s = true := by
    have hvm := C.warm.alike
    obtain ⟨comp, c9, k, h1, h2, h3, h4, h5⟩ := arrayOverA_spec (C.kn.1 _ ho)
    obtain ⟨k', hk', he⟩ := hvm.2.2 _ _ h3
    have hi : (s.vm.classes.findIdx? fun (x : Class) => match x.kind with | .array component _ => component == comp | _ => false) = some c9 := by
      rw [hvm.findIdx?_eq _ (fun _ => rfl)]; exact h2
    have hkind : k'.kind = .array comp (.array t0) := by rw [he]; exact h4
    have h1' : s.vm.findClass (FieldType.array t0).toString = some comp := by rw [hvm.findClass]; exact h1
    have h5' : s.vm.findClass ("[" ++ (FieldType.array t0).toString) = some c9 := by rw [hvm.findClass]; exact h5
    unfold Cond.before Cond.holds
    simp only [Cond.value]
    rw [h1', Option.bind_some]
    refine (congrArg (fun o : Option Nat => (o.bind (fun c => (s.vm.classes[c]?).map fun (k : Class) => match k.kind with | .array _ ty => decide (ty = FieldType.array t0) && decide (s.vm.findClass ("[" ++ (FieldType.array t0).toString) = some c) | _ => false) == some true)) hi).trans ?_
    simp [hk', hkind, h5']
  refine W.anewA C.hx C.hb C.own (C.ts hw) hao (g := F0 m pc ls (.int (nI N) :: st)) rfl hd rfl (nI_0l (by omega)) (by rw [hcl]; omega) ?_ ?_ fun cA kA comp f1 f2 f3 f4 => ?_
  · rw [C.room]; show t - s.heap.size + 1 ≤ mGT G - s.heap.size; omega
  · rw [C.room, hcl]; show u - slotSum s.heap + N ≤ mGU G - slotSum s.heap; omega
  · rw [hcl]
    have hc : cA = mGa G τ := Option.some.inj (f1.symm.trans (C.arr hτ).2.1)
    subst hc
    have e1 : (H.push ({ cls := mGa G τ, slots := Array.replicate N .null, vm := .none } : Cell))[t]? = some (arrV (mGa G τ) N (fun _ => .null)) := by rw [← h1, Array.getElem?_push_size, ← arrV_new]
    have K := kk p e R s m args below meth c C _ locs ls (t - s.heap.size + 1) (u - slotSum s.heap + N) (hR.new e1 (arrV_size _ _ _) (by rw [Array.size_push, h1]) (fun q hq => by rw [Array.getElem?_push, if_neg (by omega)]) ht hu e1) hl hL
    rw [← h1] at K ⊢
    exact K
/-- a cast that the tables allow, or to the cell's own class -/
theorem r_ccast {i a : Nat} {e9 : mE} {nm : String} (hM : M a = some e9) (ho : mOk e9) (hw : Cond.classLink (mYn y).cls i nm ∈ lw_all) (hc : Cond.castable (mNE e9) nm ∈ lw_tbl) (hd : decode (mYc y) pc = .ok (.checkcast i, 3)) (k : mW G y d (pc + 3) L (.ref a :: st) M t u Q) : mW G y d pc L (.ref a :: st) M t u Q := by
  intro p e R s m args below meth c C H locs ls cells slots hR hl hL
  obtain ⟨cell, g1, g2, g3⟩ := mCell hR hM ho C
  exact va_castY C.hx C.hb C.own (C.ts hw) (C.cast hc) ⟨cell, g1, by rw [g2]; rfl, g3⟩ hd (k p e R s m args below meth c C H locs ls cells slots hR hl hL)
theorem r_castS {i a ci : Nat} {fs : List Value} {r : vw_C} (hM : M a = some (.inr (ci, fs))) (hcl : mCl[ci]? = some r) (hw : Cond.classLink (mYn y).cls i r.1 ∈ lw_all) (hd : decode (mYc y) pc = .ok (.checkcast i, 3)) (k : mW G y d (pc + 3) L (.ref a :: st) M t u Q) : mW G y d pc L (.ref a :: st) M t u Q := by
  intro p e R s m args below meth c C H locs ls cells slots hR hl hL
  obtain ⟨cell, g1, g2, g3⟩ := mRecv hR hM hcl C
  exact va_castS C.hx C.hb C.own (C.ts hw) (C.cls hcl).2 ⟨cell, g1, by rw [g2]; rfl, g3⟩ hd (k p e R s m args below meth c C H locs ls cells slots hR hl hL)
theorem r_acopy {τ0 τ1 n0 n1 a0 a i sp dp n : Nat} {f g h : Nat → Value} {ty0 ty1 : FieldType} (hM0 : M a0 = some (.inl (τ0, n0, f))) (hM1 : M a = some (.inl (τ1, n1, g))) (hτ0 : mTy[τ0]? = some ty0) (hτ1 : mTy[τ1]? = some ty1) (hty : ((refKind ty0 != refKind ty1) || (!refKind ty0 && ty0 != ty1)) = false)
    (hw : Cond.methodLink (mYn y).cls i arraycopyName ∈ lw_all) (h4 : sp + n ≤ n0) (h5 : dp + n ≤ n1) (h6 : n0 < 2147483648) (h7 : n1 < 2147483648) (hge : mGb G ≤ a)
    (hel : ∀ j, j < n → (fits ty1 (f (sp + j)) = true ∧ ∀ b, f (sp + j) ≠ .ref b) ∨ ∃ (b : Nat) (e9 : mE), f (sp + j) = .ref b ∧ M b = some e9 ∧ mFit e9 ty1 ∧ ty1.isReference = true)
    (hh : ∀ j, j < n1 → va_cpy f g sp dp n j = h j) (hr : (st.map fun v => v.category).sum ≤ 8) (hd : decode (mYc y) pc = .ok (.invokestatic i, 3)) (kk : mW G y d (pc + 3) L st (mset M a (.inl (τ1, n1, h))) t u Q) : mW G y d pc L (.int (nI n) :: .int (nI dp) :: .ref a :: .int (nI sp) :: .ref a0 :: st) M t u Q := by
  intro p e R s m args below meth c C H locs ls cells slots hR hl hL
  have hcl : (nI n).toNatClampNeg = n := nI_cl (by omega)
  have hcs : (nI sp).toNatClampNeg = sp := nI_cl (by omega)
  have hcd : (nI dp).toNatClampNeg = dp := nI_cl (by omega)
  have hti : (nI n).toInt = n := nI_toInt (by omega)
  have hts : (nI sp).toInt = sp := nI_toInt (by omega)
  have htd : (nI dp).toInt = dp := nI_toInt (by omega)
  intro T hT X
  have hc0 : H[a0]? = some (arrV (mGa G τ0) n0 f) := hR.at hM0
  have hc1 : H[a]? = some (arrV (mGa G τ1) n1 g) := hR.at hM1
  obtain ⟨-, k0, hk0, cm0, hkk0⟩ := (C.arr hτ0).1 n0 f
  obtain ⟨-, k1, hk1, cm1, hkk1⟩ := (C.arr hτ1).1 n1 g
  have h9 : 2 * (F0 m pc ls st).monitorRoom + (st.map fun v => v.category).sum ≤ 8 := lv_room hr
  obtain ⟨vm', X', step⟩ := X.arraycopy C.hx C.own (C.ts hw) (C.ts q540) (C.ts q539) (C.ts q95) (src := a0) (dst := a) (cs := arrV (mGa G τ0) n0 f) (cd := arrV (mGa G τ1) n1 g) (srcPos := nI sp) (destPos := nI dp) (n := nI n) (by rw [hT]; exact hc0) (by rw [hT]; exact hc1)
    (fun _ h => by cases h) (fun _ h => by cases h) (fun h => by cases h) (fun h => by cases h) hk0 hk1 hkk0 hkk1 hty (nI_0l (by omega)) (nI_0l (by omega)) (nI_0l (by omega))
    (by rw [hts, hti, arrV_size]; omega) (by rw [htd, hti, arrV_size]; omega)
    (fun vm₁ hal j hj => by
      rw [hcl] at hj
      have e : (arrV (mGa G τ0) n0 f).slots.getD ((nI sp).toNatClampNeg + j) .null = f (sp + j) := by
        rw [hcs, Array.getD_eq_getD_getElem?, arrV_read _ _ (by omega)]
        rfl
      rw [e]
      rcases hel j hj with ⟨h1, h2⟩ | ⟨b, e9, h1, h2, h3, hrf⟩
      · refine ⟨h1, ?_⟩
        cases hv : f (sp + j) with
        | ref b => exact absurd hv (h2 b)
        | _ => exact trivial
      · rw [h1]
        obtain ⟨cellV, g1, g2, g3⟩ := mCell hR h2 h3.1 C
        obtain ⟨-, -, hr9⟩ := C.arr hτ1
        obtain ⟨kA, comp, r1, r2, r3⟩ := hr9 hrf
        cases hk1.symm.trans r1
        cases hkk1.symm.trans r2
        obtain ⟨kC, hkC, -⟩ := Vm.findClass_spec g3
        obtain ⟨kE, hkE, -⟩ := Vm.findClass_spec r3
        obtain ⟨kC', hkC', -⟩ := hal.2.2 _ _ hkC
        obtain ⟨kE', hkE', -⟩ := hal.2.2 _ _ hkE
        refine ⟨?_, cellV, (show T.heap[b]? = some cellV by rw [hT]; exact g1), (fun q h => by rw [g2] at h; cases h), ⟨kC', hkC'⟩, ⟨kE', hkE'⟩, ?_⟩
        · cases ty1 <;> first | rfl | cases hrf
        · show vm₁.assignable _ _ = true
          rw [hal.assignable]
          exact mFit_asg (H := H) (a := a) h3 C g3 r3)
    (g := F0 m pc ls (.int (nI n) :: .int (nI dp) :: .ref a :: .int (nI sp) :: .ref a0 :: st)) rfl (by rw [C.ml]; exact hL.sz) (rest := st) rfl (by rw [C.hb]; exact hd) (by rw [C.room]; show 1 ≤ 24 + d; omega)
    (by
      rw [C.room]
      have e9 : nativeFrameWords "java/lang/System" "arraycopy" 5 + 11 ≤ 300 := by decide +kernel
      have h8 : 2 * (F0 m pc ls (.int (nI n) :: .int (nI dp) :: .ref a :: .int (nI sp) :: .ref a0 :: st)).monitorRoom + (st.map fun v => v.category).sum ≤ 8 := lv_room hr
      show _ ≤ 400 + 64 * d
      omega)
  have e1 : copied (arrV (mGa G τ0) n0 f) (arrV (mGa G τ1) n1 g) (nI sp) (nI dp) (nI n) = arrV (mGa G τ1) n1 (va_cpy f g sp dp n) := by
    have h := va_copied (fun z : Value => z) (mGa G τ0) (mGa G τ1) (dp := dp) (n1 := n1) f g h4
    unfold copied
    rw [hcs, hcd, hcl]
    exact h
  have e2 : arrV (mGa G τ1) n1 (va_cpy f g sp dp n) = arrV (mGa G τ1) n1 h := by
    unfold arrV
    congr 1
    apply Array.ext
    · simp
    · intro j h1 h2
      simp at h1
      simp [hh j h1]
  rw [e1, e2] at X' step
  have hlt : a < H.size := (Array.getElem?_eq_some_iff.mp hc1).1
  have e3 : ((T.setVm vm').setCell a (arrV (mGa G τ1) n1 h)).heap[a]? = some (arrV (mGa G τ1) n1 h) := heapAt_setCell_self _ (by show a < T.heap.size; rw [hT]; exact hlt)
  have hz : ((T.setVm vm').setCell a (arrV (mGa G τ1) n1 h)).heap.size = H.size := by rw [size_setCell]; show T.heap.size = _; rw [hT]
  have oq : ∀ q, q ≠ a → ((T.setVm vm').setCell a (arrV (mGa G τ1) n1 h)).heap[q]? = H[q]? := fun q hq => by rw [heapAt_setCell_ne _ (Ne.symm hq)]; show T.heap[q]? = _; rw [hT]
  obtain ⟨t2, a1, b1⟩ := kk p e R s m args below meth c C _ _ ls cells slots (hR.put hge hc1 e3 (by rw [arrV_size, arrV_size]) hz oq e3) (fun q hq => by
      rcases List.mem_append.mp hq with h | h
      · exact hl q h
      · obtain ⟨w, -, rfl⟩ := List.mem_map.mp h
        exact hge) hL _ rfl X'
  exact ⟨t2, step t2 a1, b1⟩
end MHEAP
