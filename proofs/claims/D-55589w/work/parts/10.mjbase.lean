/-! ===== mj: a memory picture of the heap, and the machine's steps read over it ===== -/
/-- a cell: an array (number of its type, length, contents) or an object (number of its class, fields) -/
abbrev mE : Type := (Nat × Nat × (Nat → Value)) ⊕ (Nat × List Value)
abbrev mM : Type := Nat → Option mE
def mset (M : mM) (a : Nat) (e : mE) : mM := fun q => if q = a then some e else M q
theorem mset_eq {M : mM} {a : Nat} {e : mE} : mset M a e a = some e := by simp [mset]
theorem mset_ne {M : mM} {a q : Nat} {e : mE} (h : q ≠ a) : mset M a e q = M q := by simp [mset, h]
theorem mset_ne' {M : mM} {a q : Nat} {e e' : mE} (h : q ≠ a) (k : M q = some e') : mset M a e q = some e' := by rw [mset_ne h]; exact k
/-- an answer: returned, or thrown (number of the class, address) -/
abbrev mRs : Type := (Option Value) ⊕ (Nat × Nat)
abbrev mQt : Type := mRs → mM → Nat → Nat → Prop
/-- a method: name, code, locals, answer, handlers -/
abbrev mY : Type := MethodName × ByteArray × Nat × Option FieldType × List (Nat × Nat × Nat × Nat)
abbrev mYn (y : mY) : MethodName := y.1
abbrev mYc (y : mY) : ByteArray := y.2.1
abbrev mYl (y : mY) : Nat := y.2.2.1
abbrev mYr (y : mY) : Option FieldType := y.2.2.2.1
abbrev mYh (y : mY) : List (Nat × Nat × Nat × Nat) := y.2.2.2.2
def mCd (y : mY) : Cond := if (mYh y).isEmpty then Cond.code (mYn y) (mYc y) (mYl y) (mYr y) else Cond.codeWith (mYn y) (mYc y) (mYl y) (mYr y) (mYh y)
/-- what is fixed: launch; classes, array types: their ids and slots; lists of classes and array types; start, its arguments; limits of cells and slots -/
abbrev mG : Type := Launch × (Nat → ClassId) × (Nat → Nat → Nat) × (Nat → ClassId) × State × Array Value × Nat × Nat
abbrev mGl (G : mG) : Launch := G.1
abbrev mGc (G : mG) : Nat → ClassId := G.2.1
abbrev mGi (G : mG) : Nat → Nat → Nat := G.2.2.1
abbrev mGa (G : mG) : Nat → ClassId := G.2.2.2.1
abbrev mGs (G : mG) : State := G.2.2.2.2.1
abbrev mGv (G : mG) : Array Value := G.2.2.2.2.2.1
abbrev mGT (G : mG) : Nat := G.2.2.2.2.2.2.1
abbrev mGU (G : mG) : Nat := G.2.2.2.2.2.2.2
abbrev mGb (G : mG) : Nat := (mGs G).heap.size
/-- an object, its monitor free -/
def mOB (o : Nat) (cC : ClassId) (N : Nat) (iS : Nat → Nat) (H : Heap) (V : Nat → Value) : Prop :=
  ∃ cell : Cell, H[o]? = some cell ∧ cell.cls = cC ∧ cell.vm = .none ∧ (∀ k, k < N → cell.slots[iS k]? = some (V k)) ∧ cell.monitor.owner = none ∧ cell.monitor.count = 0
theorem mOB.kept {o : Nat} {cC : ClassId} {N : Nat} {iS : Nat → Nat} {H H1 : Heap} {V : Nat → Value} (h : mOB o cC N iS H V) (h1 : H1[o]? = H[o]?) : mOB o cC N iS H1 V := by
  obtain ⟨cell, q, r⟩ := h
  exact ⟨cell, by rw [h1]; exact q, r⟩
theorem mOB.to {o : Nat} {cC : ClassId} {N : Nat} {iS : Nat → Nat} {H : Heap} {V V' : Nat → Value} (h : mOB o cC N iS H V) (hv : ∀ k, k < N → V k = V' k) : mOB o cC N iS H V' := by
  obtain ⟨cell, q, r1, r2, r3, r4⟩ := h
  exact ⟨cell, q, r1, r2, (fun k hk => by rw [← hv k hk]; exact r3 k hk), r4⟩
def mAt (G : mG) (e : mE) (a : Nat) (H : Heap) : Prop := match e with
  | .inl x => H[a]? = some (arrV (mGa G x.1) x.2.1 x.2.2)
  | .inr o => ∃ r : vw_C, mCl[o.1]? = some r ∧ mOB a (mGc G o.1) r.2.2 (mGi G o.1) H (vp_V o.2) ∧ o.2.length = r.2.2
theorem mAt.kept {G : mG} {e : mE} {a : Nat} {H H1 : Heap} (h : mAt G e a H) (hq : H1[a]? = H[a]?) : mAt G e a H1 := by
  cases e with
  | inl x => exact hq.trans h
  | inr o =>
    obtain ⟨r, h1, h2, h3⟩ := h
    exact ⟨r, h1, h2.kept hq, h3⟩
theorem mAt.lt {G : mG} {e : mE} {a : Nat} {H : Heap} (h : mAt G e a H) : a < H.size := by
  cases e with
  | inl x => exact (Array.getElem?_eq_some_iff.mp h).1
  | inr o =>
    obtain ⟨r, h1, ⟨cell, h2, -⟩, -⟩ := h
    exact (Array.getElem?_eq_some_iff.mp h2).1
/-- the heap holds the picture -/
def mRep (G : mG) (M : mM) (t u : Nat) (H : Heap) : Prop :=
  H.size = t ∧ slotSum H = u ∧ t ≤ mGT G ∧ u ≤ mGU G ∧ mGb G ≤ t ∧ (∀ q : Nat, q < mGb G → H[q]? = (mGs G).heap[q]?) ∧ ∀ (a : Nat) (e : mE), M a = some e → mAt G e a H
theorem mRep.at {G : mG} {M : mM} {t u : Nat} {H : Heap} (h : mRep G M t u H) {a : Nat} {e : mE} (k : M a = some e) : mAt G e a H := h.2.2.2.2.2.2 a e k
theorem mRep.lt {G : mG} {M : mM} {t u : Nat} {H : Heap} (h : mRep G M t u H) {a : Nat} {e : mE} (k : M a = some e) : a < t := by rw [← h.1]; exact (h.at k).lt
/-- sums of slots -/
theorem slotSum_same {H H1 : Heap} (hz : H1.size = H.size) (h : ∀ q : Nat, (H1[q]?.map (fun c => c.slots.size)) = (H[q]?.map (fun c => c.slots.size))) : slotSum H1 = slotSum H := by
  rw [slotSum_sum, slotSum_sum]
  have e : H1.toList.map (fun c => c.slots.size) = H.toList.map (fun c => c.slots.size) := by
    apply List.ext_getElem?
    intro q
    rw [List.getElem?_map, List.getElem?_map, Array.getElem?_toList, Array.getElem?_toList]
    exact h q
  rw [e]
theorem slotSum_store {H H1 : Heap} {a : Nat} {c0 c1 : Cell} (hz : H1.size = H.size) (h0 : H[a]? = some c0) (h1 : H1[a]? = some c1) (hs : c1.slots.size = c0.slots.size) (oq : ∀ q : Nat, q ≠ a → H1[q]? = H[q]?) : slotSum H1 = slotSum H := by
  refine slotSum_same hz (fun q => ?_)
  by_cases hq : q = a
  · subst hq
    rw [h0, h1]
    simp [hs]
  · rw [oq q hq]
theorem slotSum_grow {H H1 : Heap} {c1 : Cell} (hz : H1.size = H.size + 1) (h1 : H1[H.size]? = some c1) (oq : ∀ q : Nat, q < H.size → H1[q]? = H[q]?) : slotSum H1 = slotSum H + c1.slots.size := by
  have e : H1 = H.push c1 := by
    apply Array.ext_getElem?
    intro q
    rcases Nat.lt_trichotomy q H.size with h | h | h
    · rw [oq q h, Array.getElem?_push, if_neg (Nat.ne_of_lt h)]
    · subst h
      rw [h1]
      simp
    · rw [Array.getElem?_eq_none (by omega), Array.getElem?_eq_none (by rw [Array.size_push]; omega)]
  rw [e, slotSum_push]
/-- a store into one known cell -/
theorem mRep.put {G : mG} {M : mM} {t u a : Nat} {H H1 : Heap} {e : mE} {c0 c1 : Cell} (h : mRep G M t u H) (hge : mGb G ≤ a) (h0 : H[a]? = some c0) (h1 : H1[a]? = some c1) (hs : c1.slots.size = c0.slots.size) (hz : H1.size = H.size) (oq : ∀ q : Nat, q ≠ a → H1[q]? = H[q]?) (he : mAt G e a H1) : mRep G (mset M a e) t u H1 := by
  obtain ⟨r1, r2, r3, r4, r5, r6, r7⟩ := h
  refine ⟨hz.trans r1, (slotSum_store hz h0 h1 hs oq).trans r2, r3, r4, r5, fun q hq => ?_, fun b e' hb => ?_⟩
  · rw [oq q (by omega)]; exact r6 q hq
  · by_cases hba : b = a
    · subst hba
      rw [mset_eq] at hb
      cases hb
      exact he
    · rw [mset_ne hba] at hb
      exact (r7 b e' hb).kept (oq b hba)
/-- one new cell -/
theorem mRep.new {G : mG} {M : mM} {t u n : Nat} {H H1 : Heap} {e : mE} {c1 : Cell} (h : mRep G M t u H) (h1 : H1[t]? = some c1) (hs : c1.slots.size = n) (hz : H1.size = t + 1) (oq : ∀ q : Nat, q < t → H1[q]? = H[q]?) (ht : t + 1 ≤ mGT G) (hu : u + n ≤ mGU G) (he : mAt G e t H1) : mRep G (mset M t e) (t + 1) (u + n) H1 := by
  have hlt : ∀ (a : Nat) (e : mE), M a = some e → a < t := fun a e k => h.lt k
  obtain ⟨r1, r2, r3, r4, r5, r6, r7⟩ := h
  subst r1
  refine ⟨hz, by rw [slotSum_grow hz h1 oq, r2, hs], ht, hu, by omega, fun q hq => ?_, fun b e' hb => ?_⟩
  · rw [oq q (by omega)]; exact r6 q hq
  · by_cases hba : b = H.size
    · subst hba
      rw [mset_eq] at hb
      cases hb
      exact he
    · rw [mset_ne hba] at hb
      exact (r7 b e' hb).kept (oq b (hlt b e' hb))
/-- the locals -/
def mAs : Nat → List (Option Value) → List (Nat × Value)
  | _, [] => []
  | i, some v :: L => (i, v) :: mAs (i + 1) L
  | i, none :: L => mAs (i + 1) L
theorem mAs_mem : ∀ (L : List (Option Value)) (i k : Nat) (v : Value), (k, v) ∈ mAs i L ↔ i ≤ k ∧ L[k - i]? = some (some v)
  | [], i, k, v => by simp [mAs]
  | some w :: L, i, k, v => by
    rw [mAs, List.mem_cons, mAs_mem L (i + 1) k v]
    rcases Nat.lt_trichotomy k i with h | h | h
    · constructor
      · rintro (h1 | ⟨h1, -⟩)
        · cases h1; omega
        · omega
      · rintro ⟨h1, -⟩; omega
    · subst h
      constructor
      · rintro (h1 | ⟨h1, -⟩)
        · cases h1; simp
        · omega
      · rintro ⟨-, h1⟩
        simp at h1
        exact Or.inl (by rw [h1])
    · have e : k - i = (k - (i + 1)) + 1 := by omega
      rw [e, List.getElem?_cons_succ]
      constructor
      · rintro (h1 | ⟨h1, h2⟩)
        · cases h1; omega
        · exact ⟨by omega, h2⟩
      · rintro ⟨h1, h2⟩
        exact Or.inr ⟨by omega, h2⟩
  | none :: L, i, k, v => by
    rw [mAs, mAs_mem L (i + 1) k v]
    rcases Nat.lt_trichotomy k i with h | h | h
    · constructor
      · rintro ⟨h1, -⟩; omega
      · rintro ⟨h1, -⟩; omega
    · subst h
      constructor
      · rintro ⟨h1, -⟩; omega
      · rintro ⟨-, h1⟩; simp at h1
    · have e : k - i = (k - (i + 1)) + 1 := by omega
      rw [e, List.getElem?_cons_succ]
      constructor
      · rintro ⟨h1, h2⟩; exact ⟨by omega, h2⟩
      · rintro ⟨h1, h2⟩; exact ⟨by omega, h2⟩
theorem mAs_0 {L : List (Option Value)} {k : Nat} {v : Value} : (k, v) ∈ mAs 0 L ↔ L[k]? = some (some v) := by
  rw [mAs_mem]; simp
def mL (ls : Array Slot) (n : Nat) (L : List (Option Value)) : Prop := lv_has ls n (mAs 0 L) ∧ L.length ≤ n
theorem mL.at {ls : Array Slot} {n : Nat} {L : List (Option Value)} (h : mL ls n L) {k : Nat} {v : Value} (hk : L[k]? = some (some v)) : ls[k]? = some (.val v) := h.1.2.2 (k, v) (mAs_0.mpr hk)
theorem mL.sz {ls : Array Slot} {n : Nat} {L : List (Option Value)} (h : mL ls n L) : ls.size = n := h.1.1
theorem mL.le {ls : Array Slot} {n : Nat} {L L' : List (Option Value)} (h : mL ls n L) (hl : L'.length ≤ n) (hk : ∀ (k : Nat) (v : Value), L'[k]? = some (some v) → L[k]? = some (some v)) : mL ls n L' :=
  ⟨⟨h.1.1, h.1.2.1, fun q hq => h.1.2.2 q (mAs_0.mpr (hk q.1 q.2 (mAs_0.mp hq)))⟩, hl⟩
def mclr : Option Value → Option Value
  | some (.long _) => none
  | some (.double _) => none
  | o => o
theorem mclr_some {o : Option Value} {v : Value} (h : mclr o = some v) : o = some v ∧ ¬ v.category = 2 := by
  cases o with
  | none => simp [mclr] at h
  | some w => cases w <;> simp [mclr] at h <;> subst h <;> simp [Value.category]
def mst1 : List (Option Value) → Nat → Value → List (Option Value)
  | [], _, _ => []
  | _ :: L, 0, v => some v :: L
  | x :: L, 1, v => mclr x :: mst1 L 0 v
  | x :: L, i + 2, v => x :: mst1 L (i + 1) v
def mst2 : List (Option Value) → Nat → Value → List (Option Value)
  | [], _, _ => []
  | [_], 0, _ => []
  | _ :: _ :: L, 0, v => some v :: none :: L
  | x :: L, 1, v => mclr x :: mst2 L 0 v
  | x :: L, i + 2, v => x :: mst2 L (i + 1) v
theorem mst1_len : ∀ (L : List (Option Value)) (i : Nat) (v : Value), (mst1 L i v).length = L.length
  | [], i, v => by simp [mst1]
  | x :: L, 0, v => by simp [mst1]
  | x :: L, 1, v => by simp [mst1, mst1_len L 0 v]
  | x :: L, i + 2, v => by simp [mst1, mst1_len L (i + 1) v]
theorem mst1_at : ∀ (L : List (Option Value)) (i : Nat) (v : Value) (k : Nat) (w : Value), (mst1 L i v)[k]? = some (some w) → (k = i ∧ w = v) ∨ (k ≠ i ∧ L[k]? = some (some w) ∧ (k + 1 = i → ¬ w.category = 2))
  | [], i, v, k, w => by simp [mst1]
  | x :: L, 0, v, k, w => by
    intro h
    cases k with
    | zero => simp [mst1] at h; exact Or.inl ⟨rfl, h.symm⟩
    | succ k => simp [mst1] at h; exact Or.inr ⟨by omega, by simpa using h, by omega⟩
  | x :: L, 1, v, k, w => by
    intro h
    cases k with
    | zero =>
      simp [mst1] at h
      obtain ⟨h1, h2⟩ := mclr_some h
      exact Or.inr ⟨by omega, by simp [h1], fun _ => h2⟩
    | succ k =>
      simp only [mst1, List.getElem?_cons_succ] at h
      rcases mst1_at L 0 v k w h with ⟨h1, h2⟩ | ⟨h1, h2, h3⟩
      · exact Or.inl ⟨by omega, h2⟩
      · exact Or.inr ⟨by omega, by simpa using h2, by omega⟩
  | x :: L, i + 2, v, k, w => by
    intro h
    cases k with
    | zero =>
      simp [mst1] at h
      exact Or.inr ⟨by omega, by simp [h], by omega⟩
    | succ k =>
      simp only [mst1, List.getElem?_cons_succ] at h
      rcases mst1_at L (i + 1) v k w h with ⟨h1, h2⟩ | ⟨h1, h2, h3⟩
      · exact Or.inl ⟨by omega, h2⟩
      · exact Or.inr ⟨by omega, by simpa using h2, fun e => h3 (by omega)⟩
theorem mst2_len : ∀ (L : List (Option Value)) (i : Nat) (v : Value), (mst2 L i v).length ≤ L.length
  | [], i, v => by simp [mst2]
  | [x], 0, v => by simp [mst2]
  | x :: z :: L, 0, v => by simp [mst2]
  | x :: L, 1, v => by have := mst2_len L 0 v; simp [mst2]; omega
  | x :: L, i + 2, v => by have := mst2_len L (i + 1) v; simp [mst2]; omega
theorem mst2_at : ∀ (L : List (Option Value)) (i : Nat) (v : Value) (k : Nat) (w : Value), (mst2 L i v)[k]? = some (some w) → (k = i ∧ w = v ∧ i + 1 < L.length) ∨ (k ≠ i ∧ k ≠ i + 1 ∧ L[k]? = some (some w) ∧ (k + 1 = i → ¬ w.category = 2))
  | [], i, v, k, w => by simp [mst2]
  | [x], 0, v, k, w => by simp [mst2]
  | x :: z :: L, 0, v, k, w => by
    intro h
    match k with
    | 0 => simp [mst2] at h; exact Or.inl ⟨rfl, h.symm, by simp⟩
    | 1 => simp [mst2] at h
    | k + 2 => simp [mst2] at h; exact Or.inr ⟨by omega, by omega, by simpa using h, by omega⟩
  | x :: L, 1, v, k, w => by
    intro h
    cases k with
    | zero =>
      simp [mst2] at h
      obtain ⟨h1, h2⟩ := mclr_some h
      exact Or.inr ⟨by omega, by omega, by simp [h1], fun _ => h2⟩
    | succ k =>
      simp only [mst2, List.getElem?_cons_succ] at h
      rcases mst2_at L 0 v k w h with ⟨h1, h2, h3⟩ | ⟨h1, h2, h3, h4⟩
      · exact Or.inl ⟨by omega, h2, by simp; omega⟩
      · exact Or.inr ⟨by omega, by omega, by simpa using h3, by omega⟩
  | x :: L, i + 2, v, k, w => by
    intro h
    cases k with
    | zero =>
      simp [mst2] at h
      exact Or.inr ⟨by omega, by omega, by simp [h], by omega⟩
    | succ k =>
      simp only [mst2, List.getElem?_cons_succ] at h
      rcases mst2_at L (i + 1) v k w h with ⟨h1, h2, h3⟩ | ⟨h1, h2, h3, h4⟩
      · exact Or.inl ⟨by omega, h2, by simp; omega⟩
      · exact Or.inr ⟨by omega, by omega, by simpa using h3, fun e => h4 (by omega)⟩
theorem mL.st1 {ls ls' : Array Slot} {n : Nat} {L : List (Option Value)} {i : Nat} {v : Value} (h : mL ls n L) (h' : lv_has ls' n ((i, v) :: (mAs 0 L).filter (fun q => !(q.1 == i) && !(q.1 + 1 == i && q.2.category == 2)))) : mL ls' n (mst1 L i v) := by
  refine ⟨⟨h'.1, h'.2.1, fun q hq => h'.2.2 q ?_⟩, by rw [mst1_len]; exact h.2⟩
  rcases mst1_at L i v q.1 q.2 (mAs_0.mp hq) with ⟨h1, h2⟩ | ⟨h1, h2, h3⟩
  · rw [← h1, ← h2]; exact List.mem_cons_self
  · refine List.mem_cons_of_mem _ (List.mem_filter.mpr ⟨mAs_0.mpr h2, ?_⟩)
    by_cases e : q.1 + 1 = i
    · have := h3 e
      simp [h1, this]
    · simp [h1, e]
theorem mL.st2 {ls ls' : Array Slot} {n : Nat} {L : List (Option Value)} {i : Nat} {v : Value} (h : mL ls n L) (h' : lv_has ls' n ((i, v) :: (mAs 0 L).filter (fun q => !(q.1 == i) && (!(q.1 == i + 1) && !(q.1 + 1 == i && q.2.category == 2))))) : mL ls' n (mst2 L i v) := by
  refine ⟨⟨h'.1, h'.2.1, fun q hq => h'.2.2 q ?_⟩, Nat.le_trans (mst2_len L i v) h.2⟩
  rcases mst2_at L i v q.1 q.2 (mAs_0.mp hq) with ⟨h1, h2, -⟩ | ⟨h1, h2, h3, h4⟩
  · rw [← h1, ← h2]; exact List.mem_cons_self
  · refine List.mem_cons_of_mem _ (List.mem_filter.mpr ⟨mAs_0.mpr h3, ?_⟩)
    by_cases e : q.1 + 1 = i
    · have := h4 e
      simp [h1, h2, this]
    · simp [h1, h2, e]
/-- the locals at the entry -/
def mEn : List Value → List (Option Value)
  | [] => []
  | .long v :: l => some (.long v) :: none :: mEn l
  | .double v :: l => some (.double v) :: none :: mEn l
  | v :: l => some v :: mEn l
theorem mEn_args : ∀ (l : List Value) (i k : Nat) (v : Value), (k, v) ∈ mAs i (mEn l) → (k, v) ∈ lv_args i l
  | [], i, k, v => by simp [mEn, mAs]
  | w :: l, i, k, v => by
    intro h
    cases w <;> simp only [mEn, mAs, List.mem_cons] at h <;> simp only [lv_args, List.mem_cons, Value.category] <;>
      (rcases h with h | h
       · exact Or.inl h
       · exact Or.inr (by simpa using mEn_args l _ k v h))
def mEnt (n : Nat) (l : List Value) : List (Option Value) := mEn l ++ List.replicate (n - (mEn l).length) none
theorem mAs_rep : ∀ (L : List (Option Value)) (i n : Nat), mAs i (L ++ List.replicate n none) = mAs i L
  | [], i, n => by
    induction n generalizing i with
    | zero => rfl
    | succ n ih => simpa [List.replicate_succ, mAs] using ih (i + 1)
  | some v :: L, i, n => by simp [mAs, mAs_rep L (i + 1) n]
  | none :: L, i, n => by simp [mAs, mAs_rep L (i + 1) n]
theorem mL_entry {vs : List Value} {n : Nat} (h : (lg_sl vs).length ≤ n) (hn : (mEn vs).length ≤ n) : mL ((lg_sl vs ++ List.replicate (n - (lg_sl vs).length) Slot.unset).toArray) n (mEnt n vs) := by
  have h1 := lv_entry vs h
  refine ⟨⟨h1.1, h1.2.1, fun q hq => h1.2.2 q ?_⟩, by simp [mEnt]; omega⟩
  rw [mEnt, mAs_rep] at hq
  exact mEn_args vs 0 q.1 q.2 hq
