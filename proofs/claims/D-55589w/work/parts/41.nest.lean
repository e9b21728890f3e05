/-! ===== how clauses stand within one another ===== -/
/-- what is open: what ends it and where it began, the innermost first; of each choice, its middle and its end -/
abbrev NT : Type := List (Nat × Nat) × (Nat → Nat) × (Nat → Nat)
def isEn (s : Nat) : Bool := decide (s = 1 ∨ s = 8 ∨ s = 9)
def nsStep (k s : Nat) (N : NT) : Option NT :=
  if isEn s = true then
    match N.1 with
    | [] => none
    | (e, b) :: r => if e ≠ s then none
      else if s = 1 then some (r, N.2.1, N.2.2)
      else if s = 8 then some ((9, b) :: r, fU N.2.1 b k, N.2.2)
      else some (r, N.2.1, fU N.2.2 b k)
  else if s = 0 then some ((1, k) :: N.1, N.2.1, N.2.2)
  else if s = 7 then some ((8, k) :: N.1, N.2.1, N.2.2)
  else some N
/-- n clauses from k on -/
def nsRun (so : Nat → Nat) (k : Nat) (N : NT) : Nat → Option NT
  | 0 => some N
  | n + 1 => (nsRun so k N n).bind (nsStep (k + n) (so (k + n)))
theorem nsRun_add (so : Nat → Nat) (k : Nat) (N : NT) (a : Nat) : ∀ b, nsRun so k N (a + b) = (nsRun so k N a).bind (fun N' => nsRun so (k + a) N' b)
  | 0 => by show nsRun so k N a = _; cases nsRun so k N a <;> rfl
  | b + 1 => by
    show (nsRun so k N (a + b)).bind _ = _
    rw [nsRun_add so k N a b]
    cases nsRun so k N a with
    | none => rfl
    | some N' => show (nsRun so (k + a) N' b).bind (nsStep (k + (a + b)) (so (k + (a + b)))) = (nsRun so (k + a) N' b).bind (nsStep (k + a + b) (so (k + a + b))); rw [Nat.add_assoc]
def nsI (mid en : Nat → Nat) : NT := ([], mid, en)
def ns0 : NT := nsI (fun _ => 0) (fun _ => 0)
def nsDep (so : Nat → Nat) (k : Nat) : Nat := match nsRun so 0 ns0 k with | none => 0 | some N => N.1.length
def nestB (so : Nat → Nat) (n : Nat) : Bool := match nsRun so 0 ns0 n with | none => false | some N => N.1.isEmpty
def arD (so : Nat → Nat) (k : Nat) : Nat := nsDep so k - (if isEn (so k) = true then 1 else 0)
def dpM (so : Nat → Nat) : Nat → Nat
  | 0 => 0
  | n + 1 => max (dpM so n) (nsDep so (n + 1))
theorem nsDep_le (so : Nat → Nat) : ∀ n, nsDep so n ≤ dpM so n
  | 0 => Nat.le_refl _
  | n + 1 => Nat.le_max_right _ _
/-- the stack and whether it goes on do not depend on the middles and ends -/
theorem nsRun_any (so : Nat → Nat) (k : Nat) (st : List (Nat × Nat)) (m1 e1 m2 e2 : Nat → Nat) : ∀ n, (nsRun so k (st, m1, e1) n).map (fun N => N.1) = (nsRun so k (st, m2, e2) n).map (fun N => N.1)
  | 0 => rfl
  | n + 1 => by
    have ih := nsRun_any so k st m1 e1 m2 e2 n
    show ((nsRun so k (st, m1, e1) n).bind _).map _ = ((nsRun so k (st, m2, e2) n).bind _).map _
    cases h1 : nsRun so k (st, m1, e1) n with
    | none =>
      rw [h1] at ih
      cases h2 : nsRun so k (st, m2, e2) n with
      | none => rfl
      | some b => rw [h2] at ih; cases ih
    | some a =>
      rw [h1] at ih
      cases h2 : nsRun so k (st, m2, e2) n with
      | none => rw [h2] at ih; cases ih
      | some b =>
        rw [h2] at ih
        have e : a.1 = b.1 := Option.some.inj ih
        show (nsStep _ _ a).map _ = (nsStep _ _ b).map _
        unfold nsStep
        rw [e]
        split
        · split
          · rfl
          · split
            · rfl
            · split
              · rfl
              · split <;> rfl
        · split
          · rfl
          · split
            · rfl
            · show some a.1 = some b.1; rw [e]
theorem nsDep_of {so : Nat → Nat} {m e : Nat → Nat} {k : Nat} {N : NT} (h : nsRun so 0 (nsI m e) k = some N) : nsDep so k = N.1.length := by
  have q := nsRun_any so 0 [] m e (fun _ => 0) (fun _ => 0) k
  unfold nsI at h
  rw [h] at q
  unfold nsDep ns0 nsI
  cases h2 : nsRun so 0 ([], (fun _ => 0), (fun _ => 0)) k with
  | none => rw [h2] at q; cases q
  | some b => rw [h2] at q; have q : N.1 = b.1 := Option.some.inj q; rw [q]
theorem nestB_of {so : Nat → Nat} {m e : Nat → Nat} {k : Nat} {N : NT} (h : nsRun so 0 (nsI m e) k = some N) : nestB so k = N.1.isEmpty := by
  have q := nsRun_any so 0 [] m e (fun _ => 0) (fun _ => 0) k
  unfold nsI at h
  rw [h] at q
  unfold nestB ns0 nsI
  cases h2 : nsRun so 0 ([], (fun _ => 0), (fun _ => 0)) k with
  | none => rw [h2] at q; cases q
  | some b => rw [h2] at q; have q : N.1 = b.1 := Option.some.inj q; rw [q]
theorem nestB_no {so : Nat → Nat} {m e : Nat → Nat} {k n : Nat} (h : nsRun so 0 (nsI m e) k = none) (hk : k ≤ n) : nestB so n = false := by
  have q := nsRun_any so 0 [] m e (fun _ => 0) (fun _ => 0) n
  have h3 : nsRun so 0 (nsI m e) n = none := by
    obtain ⟨j, rfl⟩ : ∃ j, n = k + j := ⟨n - k, by omega⟩
    rw [nsRun_add, h]; rfl
  unfold nsI at h3
  rw [h3] at q
  unfold nestB ns0 nsI
  cases h2 : nsRun so 0 ([], (fun _ => 0), (fun _ => 0)) n with
  | none => rfl
  | some b => rw [h2] at q; cases q
/-- a row holds a stack -/
def stk (f g : Nat → Nat) : List (Nat × Nat) → Prop
  | [] => True
  | (e, b) :: r => f r.length = e ∧ g r.length = b ∧ stk f g r
theorem stk_up {f g f' g' : Nat → Nat} : ∀ {st : List (Nat × Nat)}, (∀ j, j < st.length → f' j = f j ∧ g' j = g j) → stk f g st → stk f' g' st
  | [], _, _ => trivial
  | (e, b) :: r, h, ⟨h1, h2, h3⟩ => ⟨by rw [(h _ (by simp)).1]; exact h1, by rw [(h _ (by simp)).2]; exact h2, stk_up (fun j hj => h j (by simp; omega)) h3⟩
/-- all that is open is of the three kinds, and began at a place below k -/
def stOk (k : Nat) (st : List (Nat × Nat)) : Prop := st.length ≤ k ∧ ∀ z ∈ st, (z.1 = 1 ∨ z.1 = 8 ∨ z.1 = 9) ∧ z.2 < k
theorem stOk_step {k s : Nat} {N N' : NT} (h : nsStep k s N = some N') (ho : stOk k N.1) : stOk (k + 1) N'.1 := by
  obtain ⟨h1, h2⟩ := ho
  have up : ∀ z ∈ N.1, (z.1 = 1 ∨ z.1 = 8 ∨ z.1 = 9) ∧ z.2 < k + 1 := fun z hz => ⟨(h2 z hz).1, by have := (h2 z hz).2; omega⟩
  unfold nsStep at h
  split at h
  · split at h
    · cases h
    · rename_i e b r hr
      rw [hr] at h1 up
      simp only [List.length_cons] at h1
      have upr : ∀ z ∈ r, (z.1 = 1 ∨ z.1 = 8 ∨ z.1 = 9) ∧ z.2 < k + 1 := fun z hz => up z (List.mem_cons_of_mem _ hz)
      have upb := (up (e, b) List.mem_cons_self).2
      split at h
      · cases h
      · split at h
        · cases h; exact ⟨by show r.length ≤ _; omega, upr⟩
        · split at h
          · cases h
            refine ⟨by simp only [List.length_cons]; omega, fun z hz => ?_⟩
            rcases List.mem_cons.mp hz with rfl | hz
            · exact ⟨Or.inr (Or.inr rfl), upb⟩
            · exact upr z hz
          · cases h; exact ⟨by show r.length ≤ _; omega, upr⟩
  · split at h
    · cases h
      refine ⟨by simp only [List.length_cons]; omega, fun z hz => ?_⟩
      rcases List.mem_cons.mp hz with rfl | hz
      · exact ⟨Or.inl rfl, Nat.lt_succ_self k⟩
      · exact up z hz
    · split at h
      · cases h
        refine ⟨by simp only [List.length_cons]; omega, fun z hz => ?_⟩
        rcases List.mem_cons.mp hz with rfl | hz
        · exact ⟨Or.inr (Or.inl rfl), Nat.lt_succ_self k⟩
        · exact up z hz
      · cases h; exact ⟨by omega, up⟩
theorem stOk_run {so : Nat → Nat} {m e : Nat → Nat} : ∀ {k : Nat} {N : NT}, nsRun so 0 (nsI m e) k = some N → stOk k N.1
  | 0, N, h => by cases h; exact ⟨Nat.le_refl _, fun z hz => by cases hz⟩
  | k + 1, N, h => by
    obtain ⟨N0, h1, h2⟩ := Option.bind_eq_some_iff.mp h
    rw [Nat.zero_add] at h2
    exact stOk_step h2 (stOk_run h1)
/-! ===== clauses as a tree: a choice with its branches, and all other clauses ===== -/
abbrev Fo : Type := Lean.Data.AC.Expr
def fl : Fo → Nat
  | .var _ => 0
  | .op (.var _) r => fl r + 1
  | .op (.op a b) r => fl a + fl b + fl r + 3
/-- how many paths -/
def fc : Fo → Nat
  | .var _ => 1
  | .op (.var _) r => fc r
  | .op (.op a b) r => (fc a + fc b) * fc r
/-- how deep choices stand in choices -/
def fh : Fo → Nat
  | .var _ => 0
  | .op (.var _) r => fh r
  | .op (.op a b) r => max (max (fh a) (fh b) + 1) (fh r)
/-- how many choices -/
def fk : Fo → Nat
  | .var _ => 0
  | .op (.var _) r => fk r
  | .op (.op a b) r => fk a + fk b + fk r + 1
theorem fc_pos : ∀ f, 0 < fc f
  | .var _ => Nat.one_pos
  | .op (.var _) r => fc_pos r
  | .op (.op a b) r => Nat.mul_pos (Nat.add_pos_left (fc_pos a) _) (fc_pos r)
theorem fc_le : ∀ f, fc f ≤ 2 ^ fk f
  | .var _ => Nat.le_refl _
  | .op (.var _) r => fc_le r
  | .op (.op a b) r => by
    show (fc a + fc b) * fc r ≤ 2 ^ (fk a + fk b + fk r + 1)
    have h1 := fc_le a; have h2 := fc_le b; have h3 := fc_le r
    have e1 : 2 ^ fk a ≤ 2 ^ (fk a + fk b) := Nat.pow_le_pow_right (by decide) (by omega)
    have e2 : 2 ^ fk b ≤ 2 ^ (fk a + fk b) := Nat.pow_le_pow_right (by decide) (by omega)
    calc (fc a + fc b) * fc r ≤ (2 * 2 ^ (fk a + fk b)) * 2 ^ fk r := Nat.mul_le_mul (by omega) h3
      _ = 2 ^ (fk a + fk b + fk r + 1) := by rw [← Nat.pow_succ', ← Nat.pow_add]; congr 1; omega
theorem fk_le : ∀ f, 3 * fk f ≤ fl f
  | .var _ => Nat.le_refl _
  | .op (.var _) r => by have := fk_le r; simp only [fk, fl]; omega
  | .op (.op a b) r => by have := fk_le a; have := fk_le b; have := fk_le r; simp only [fk, fl]; omega
theorem fh_le : ∀ f, 3 * fh f ≤ fl f
  | .var _ => Nat.le_refl _
  | .op (.var _) r => by have := fh_le r; simp only [fh, fl]; omega
  | .op (.op a b) r => by have := fh_le a; have := fh_le b; have := fh_le r; simp only [fh, fl]; omega
theorem fc_256 {f : Fo} (h : fl f ≤ 24) : fc f ≤ 256 := by
  have h1 := fc_le f
  have h2 := fk_le f
  have h3 : 2 ^ fk f ≤ 2 ^ 8 := Nat.pow_le_pow_right (by decide) (by omega)
  omega
/-- the clauses from p on are f; regions lead from depth d to depth e, and are whole in each branch -/
def wb (so : Nat → Nat) : Nat → Fo → Nat → Nat → Prop
  | _, .var _, d, e => d = e
  | p, .op (.var _) r, d, e => (so p = 0 ∧ wb so (p + 1) r (d + 1) e) ∨ (so p = 1 ∧ ∃ d', d = d' + 1 ∧ wb so (p + 1) r d' e) ∨ ((2 ≤ so p ∧ so p ≤ 6) ∧ wb so (p + 1) r d e)
  | p, .op (.op a b) r, d, e => so p = 7 ∧ wb so (p + 1) a 0 0 ∧ so (p + 1 + fl a) = 8 ∧ wb so (p + 2 + fl a) b 0 0 ∧ so (p + 2 + fl a + fl b) = 9 ∧ wb so (p + 3 + fl a + fl b) r d e
/-- the middles and ends of the choices are as they are kept -/
def me (mid en : Nat → Nat) : Nat → Fo → Prop
  | _, .var _ => True
  | p, .op (.var _) r => me mid en (p + 1) r
  | p, .op (.op a b) r => mid p = p + 1 + fl a ∧ en p = p + 2 + fl a + fl b ∧ me mid en (p + 1) a ∧ me mid en (p + 2 + fl a) b ∧ me mid en (p + 3 + fl a + fl b) r
theorem me_congr {mid en mid' en' : Nat → Nat} : ∀ {f : Fo} {p : Nat}, (∀ q, p ≤ q → q < p + fl f → mid' q = mid q ∧ en' q = en q) → me mid en p f → me mid' en' p f
  | .var _, _, _, _ => trivial
  | .op (.var _) r, p, h, hm => me_congr (f := r) (fun q h1 h2 => h q (by omega) (by simp only [fl]; omega)) hm
  | .op (.op a b) r, p, h, ⟨h1, h2, h3, h4, h5⟩ => by
    have hp := h p (Nat.le_refl _) (by simp only [fl]; omega)
    refine ⟨by rw [hp.1]; exact h1, by rw [hp.2]; exact h2, me_congr (fun q q1 q2 => h q (by omega) (by simp only [fl]; omega)) h3, me_congr (fun q q1 q2 => h q (by omega) (by simp only [fl]; omega)) h4, me_congr (fun q q1 q2 => h q (by omega) (by simp only [fl]; omega)) h5⟩
/-- what is behind a place can be parsed, if it is known what is open there; d: so many regions -/
def Sf (so : Nat → Nat) (n : Nat) : List Nat → Nat → Nat → Prop
  | [], k, d => ∃ f, wb so k f d 0 ∧ k + fl f = n
  | e :: r, k, d => if e = 1 then Sf so n r k (d + 1) else if e = 8 then
      ∃ f g, wb so k f d 0 ∧ so (k + fl f) = 8 ∧ wb so (k + fl f + 1) g 0 0 ∧ so (k + fl f + 1 + fl g) = 9 ∧ Sf so n r (k + fl f + 1 + fl g + 1) 0
    else ∃ f, wb so k f d 0 ∧ so (k + fl f) = 9 ∧ Sf so n r (k + fl f + 1) 0
theorem Sf.pre {so : Nat → Nat} {n k k' d d' : Nat} (C : Fo → Fo) (hl : ∀ f, k + fl (C f) = k' + fl f) (hw : ∀ f i, wb so k' f (d + i) 0 → wb so k (C f) (d' + i) 0) : ∀ (st : List Nat) (i : Nat), Sf so n st k' (d + i) → Sf so n st k (d' + i)
  | [], i, ⟨f, h1, h2⟩ => ⟨C f, hw f i h1, by rw [hl]; exact h2⟩
  | e :: r, i, h => by
    unfold Sf at h ⊢
    split
    · rename_i he
      rw [if_pos he] at h
      exact Sf.pre C hl hw r (i + 1) h
    · rename_i he
      rw [if_neg he] at h
      split
      · rename_i h8
        rw [if_pos h8] at h
        obtain ⟨f, g, h1, h2, h3⟩ := h
        exact ⟨C f, g, hw f i h1, by rw [hl]; exact h2, by rw [hl]; exact h3⟩
      · rename_i h8
        rw [if_neg h8] at h
        obtain ⟨f, h1, h2, h3⟩ := h
        exact ⟨C f, hw f i h1, by rw [hl]; exact h2, by rw [hl]; exact h3⟩
theorem fl_leaf (f : Fo) (v k : Nat) : k + fl (.op (.var v) f) = k + 1 + fl f := by simp only [fl]; omega
theorem fl_cho (a b f : Fo) (k : Nat) : k + fl (.op (.op a b) f) = k + 3 + fl a + fl b + fl f := by simp only [fl]; omega
theorem Sf.back {so : Nat → Nat} {n k : Nat} {N N' : NT} (hso : so k < 10) (ho : ∀ z ∈ N.1, z.1 = 1 ∨ z.1 = 8 ∨ z.1 = 9) (h : nsStep k (so k) N = some N') (hf : Sf so n (N'.1.map Prod.fst) (k + 1) 0) : Sf so n (N.1.map Prod.fst) k 0 := by
  unfold nsStep at h
  split at h
  · rename_i hE
    split at h
    · cases h
    · rename_i e b r hr
      rw [hr]
      split at h
      · cases h
      · rename_i hes
        have hes : e = so k := Decidable.of_not_not hes
        show Sf so n (e :: r.map Prod.fst) k 0
        split at h
        · rename_i h1
          cases h
          unfold Sf
          rw [if_pos (by omega)]
          exact Sf.pre (d := 0) (d' := 1) (fun f => .op (.var 0) f) (fun f => fl_leaf f 0 k) (fun f i hw => Or.inr (Or.inl ⟨h1, i, by omega, by rw [Nat.zero_add] at hw; exact hw⟩)) _ 0 hf
        · split at h
          · rename_i h1 h8
            cases h
            unfold Sf
            rw [if_neg (by omega), if_pos (by omega)]
            have hf : Sf so n (9 :: r.map Prod.fst) (k + 1) 0 := hf
            unfold Sf at hf
            rw [if_neg (by decide), if_neg (by decide)] at hf
            obtain ⟨f, q1, q2, q3⟩ := hf
            exact ⟨.var 0, f, rfl, h8, q1, q2, q3⟩
          · rename_i h1 h8
            cases h
            have h9 : so k = 9 := by have := of_decide_eq_true hE; omega
            unfold Sf
            rw [if_neg (by omega), if_neg (by omega)]
            exact ⟨.var 0, rfl, h9, hf⟩
  · rename_i hE
    split at h
    · rename_i h0
      cases h
      have hf : Sf so n (1 :: N.1.map Prod.fst) (k + 1) 0 := hf
      unfold Sf at hf
      rw [if_pos rfl] at hf
      exact Sf.pre (d := 1) (d' := 0) (fun f => .op (.var 0) f) (fun f => fl_leaf f 0 k) (fun f i hw => Or.inl ⟨h0, by rw [Nat.zero_add, Nat.add_comm i 1]; exact hw⟩) _ 0 hf
    · split at h
      · rename_i h7
        cases h
        have hf : Sf so n (8 :: N.1.map Prod.fst) (k + 1) 0 := hf
        unfold Sf at hf
        rw [if_neg (by decide), if_pos rfl] at hf
        obtain ⟨a, b, q1, q2, q3, q4, q5⟩ := hf
        have e1 : k + 1 + fl a + 1 = k + 2 + fl a := by omega
        have e2 : k + 2 + fl a + fl b + 1 = k + 3 + fl a + fl b := by omega
        rw [e1] at q3 q4 q5
        rw [e2] at q5
        exact Sf.pre (d := 0) (d' := 0) (fun f => .op (.op a b) f) (fun f => fl_cho a b f k) (fun f i hw => ⟨h7, q1, q2, q3, q4, hw⟩) _ 0 q5
      · cases h
        have : ¬ (so k = 1 ∨ so k = 8 ∨ so k = 9) := fun hh => hE (decide_eq_true hh)
        exact Sf.pre (d := 0) (d' := 0) (fun f => .op (.var 0) f) (fun f => fl_leaf f 0 k) (fun f i hw => Or.inr (Or.inr ⟨by omega, hw⟩)) _ 0 hf
theorem nest_tree {so : Nat → Nat} {n : Nat} (hso : ∀ k, k < n → so k < 10) (h : nestB so n = true) : ∃ f, fl f = n ∧ wb so 0 f 0 0 := by
  unfold nestB at h
  cases hr : nsRun so 0 ns0 n with
  | none => rw [hr] at h; cases h
  | some N =>
    rw [hr] at h
    have hN : N.1 = [] := List.isEmpty_iff.mp h
    have key : ∀ j k N0, k + j = n → nsRun so 0 ns0 k = some N0 → Sf so n (N0.1.map Prod.fst) k 0 := by
      intro j
      induction j with
      | zero =>
        intro k N0 hk hk2
        have : k = n := by omega
        subst this
        cases hr.symm.trans hk2
        rw [hN]
        exact ⟨.var 0, rfl, by simp only [fl]; omega⟩
      | succ j ih =>
        intro k N0 hk hk2
        have e : nsRun so 0 ns0 (k + 1) = nsStep k (so k) N0 := by show (nsRun so 0 ns0 k).bind _ = _; rw [hk2, Nat.zero_add]; rfl
        cases h3 : nsStep k (so k) N0 with
        | none =>
          exfalso
          rw [h3] at e
          have : nsRun so 0 ns0 n = none := by
            obtain ⟨i, rfl⟩ : ∃ i, n = k + 1 + i := ⟨j, by omega⟩
            rw [nsRun_add, e]; rfl
          rw [hr] at this; cases this
        | some N1 => exact Sf.back (hso k (by omega)) (fun z hz => ((stOk_run hk2).2 z hz).1) h3 (ih (k + 1) N1 (by omega) (e.trans h3))
    obtain ⟨f, h1, h2⟩ := key n 0 ns0 (by omega) rfl
    exact ⟨f, by omega, h1⟩
/-- going through a tree: what is open below stays, the middles and ends of its choices are noted -/
theorem ns_tree {so : Nat → Nat} : ∀ {f : Fo} {p d e : Nat} {R base : List (Nat × Nat)} {m en : Nat → Nat}, wb so p f d e → R.length = d → (∀ z ∈ R, z.1 = 1) →
    ∃ R' m' en', nsRun so p (R ++ base, m, en) (fl f) = some (R' ++ base, m', en') ∧ R'.length = e ∧ (∀ z ∈ R', z.1 = 1) ∧ me m' en' p f ∧ (∀ q, (q < p ∨ p + fl f ≤ q) → (q < p → ∀ z ∈ R, q ≠ z.2 ∨ True) → m' q = m q ∧ en' q = en q)
  | .var _, p, d, e, R, base, m, en, h, hR, h1 => ⟨R, m, en, rfl, by rw [hR]; exact h, h1, trivial, fun _ _ _ => ⟨rfl, rfl⟩⟩
  | .op (.var _) r, p, d, e, R, base, m, en, h, hR, h1 => by
    have st : ∀ n N, nsRun so p N (n + 1) = (nsStep p (so p) N).bind (fun N' => nsRun so (p + 1) N' n) := fun n N => by
      rw [Nat.add_comm n 1, nsRun_add]; rfl
    show ∃ R' m' en', nsRun so p (R ++ base, m, en) (fl r + 1) = _ ∧ _
    rw [st]
    rcases h with ⟨h0, hb⟩ | ⟨h0, d', hd, hb⟩ | ⟨h0, hb⟩
    · obtain ⟨R', m', en', q1, q2, q3, q4, q5⟩ := ns_tree (R := (1, p) :: R) (base := base) (m := m) (en := en) hb (by simp only [List.length_cons]; omega) (fun z hz => by rcases List.mem_cons.mp hz with rfl | hz; rfl; exact h1 z hz)
      refine ⟨R', m', en', ?_, q2, q3, q4, fun q hq _ => q5 q (by simp only [fl] at hq; omega) (fun _ _ _ => Or.inr trivial)⟩
      have e : nsStep p (so p) (R ++ base, m, en) = some (((1, p) :: R) ++ base, m, en) := by unfold nsStep; rw [h0]; rfl
      rw [e]; exact q1
    · cases R with
      | nil => simp at hR; omega
      | cons z R =>
        obtain ⟨z1, z2⟩ := z
        have hz1 : z1 = 1 := h1 _ List.mem_cons_self
        subst hz1
        obtain ⟨R', m', en', q1, q2, q3, q4, q5⟩ := ns_tree (R := R) (base := base) (m := m) (en := en) hb (by simp only [List.length_cons] at hR; omega) (fun z hz => h1 z (List.mem_cons_of_mem _ hz))
        refine ⟨R', m', en', ?_, q2, q3, q4, fun q hq _ => q5 q (by simp only [fl] at hq; omega) (fun _ _ _ => Or.inr trivial)⟩
        have e : nsStep p (so p) ((1, z2) :: R ++ base, m, en) = some (R ++ base, m, en) := by unfold nsStep; rw [h0]; rfl
        rw [e]; exact q1
    · obtain ⟨R', m', en', q1, q2, q3, q4, q5⟩ := ns_tree (R := R) (base := base) (m := m) (en := en) hb hR h1
      refine ⟨R', m', en', ?_, q2, q3, q4, fun q hq _ => q5 q (by simp only [fl] at hq; omega) (fun _ _ _ => Or.inr trivial)⟩
      have e : nsStep p (so p) (R ++ base, m, en) = some (R ++ base, m, en) := by
        unfold nsStep
        rw [if_neg (by unfold isEn; rw [decide_eq_true_eq]; omega), if_neg (by omega), if_neg (by omega)]
      rw [e]; exact q1
  | .op (.op a b) r, p, d, e, R, base, m, en, ⟨h7, ha, h8, hb, h9, hr⟩, hR, h1 => by
    obtain ⟨Ra, ma, ea, a1, a2, a3, a4, a5⟩ := ns_tree (R := []) (base := (8, p) :: (R ++ base)) (m := m) (en := en) ha rfl (fun z hz => by cases hz)
    obtain ⟨Rb, mb, eb, b1, b2, b3, b4, b5⟩ := ns_tree (R := []) (base := (9, p) :: (R ++ base)) (m := fU ma p (p + 1 + fl a)) (en := ea) hb rfl (fun z hz => by cases hz)
    obtain ⟨Rr, mr, er, r1, r2, r3, r4, r5⟩ := ns_tree (R := R) (base := base) (m := mb) (en := fU eb p (p + 2 + fl a + fl b)) hr hR h1
    cases List.length_eq_zero_iff.mp a2
    cases List.length_eq_zero_iff.mp b2
    have s1 : nsStep p (so p) (R ++ base, m, en) = some ((8, p) :: (R ++ base), m, en) := by unfold nsStep; rw [h7]; rfl
    have s2 : nsStep (p + 1 + fl a) (so (p + 1 + fl a)) ((8, p) :: (R ++ base), ma, ea) = some ((9, p) :: (R ++ base), fU ma p (p + 1 + fl a), ea) := by unfold nsStep; rw [h8]; rfl
    have s3 : nsStep (p + 2 + fl a + fl b) (so (p + 2 + fl a + fl b)) ((9, p) :: (R ++ base), mb, eb) = some (R ++ base, mb, fU eb p (p + 2 + fl a + fl b)) := by unfold nsStep; rw [h9]; rfl
    have one : ∀ k N, nsRun so k N 1 = nsStep k (so k) N := fun k N => rfl
    refine ⟨Rr, mr, er, ?_, r2, r3, ⟨?_, ?_, ?_, ?_, r4⟩, ?_⟩
    · have e1 : fl (Lean.Data.AC.Expr.op (.op a b) r) = 1 + (fl a + (1 + (fl b + (1 + fl r)))) := by simp only [fl]; omega
      rw [e1, nsRun_add, one, s1]
      show nsRun so (p + 1) _ _ = _
      rw [nsRun_add, show nsRun so (p + 1) ((8, p) :: (R ++ base), m, en) (fl a) = some ([] ++ (8, p) :: (R ++ base), ma, ea) from a1]
      show nsRun so (p + 1 + fl a) _ _ = _
      rw [nsRun_add, one]
      show (nsStep (p + 1 + fl a) (so (p + 1 + fl a)) ((8, p) :: (R ++ base), ma, ea)).bind _ = _
      rw [s2]
      show nsRun so (p + 1 + fl a + 1) _ _ = _
      rw [show p + 1 + fl a + 1 = p + 2 + fl a by omega, nsRun_add, show nsRun so (p + 2 + fl a) ((9, p) :: (R ++ base), fU ma p (p + 1 + fl a), ea) (fl b) = some ([] ++ (9, p) :: (R ++ base), mb, eb) from b1]
      show nsRun so (p + 2 + fl a + fl b) _ _ = _
      rw [nsRun_add, one]
      show (nsStep (p + 2 + fl a + fl b) (so (p + 2 + fl a + fl b)) ((9, p) :: (R ++ base), mb, eb)).bind _ = _
      rw [s3]
      show nsRun so (p + 2 + fl a + fl b + 1) _ _ = _
      rw [show p + 2 + fl a + fl b + 1 = p + 3 + fl a + fl b by omega]
      exact r1
    · rw [(r5 p (by omega) (fun _ _ _ => Or.inr trivial)).1, (b5 p (by omega) (fun _ _ _ => Or.inr trivial)).1, fU_eq]
    · rw [(r5 p (by omega) (fun _ _ _ => Or.inr trivial)).2, fU_eq]
    · refine me_congr (fun q q1 q2 => ?_) a4
      rw [(r5 q (by omega) (fun _ _ _ => Or.inr trivial)).1, (r5 q (by omega) (fun _ _ _ => Or.inr trivial)).2, fU_ne (by omega), (b5 q (by omega) (fun _ _ _ => Or.inr trivial)).1, (b5 q (by omega) (fun _ _ _ => Or.inr trivial)).2, fU_ne (by omega)]
      exact ⟨rfl, rfl⟩
    · refine me_congr (fun q q1 q2 => ?_) b4
      rw [(r5 q (by omega) (fun _ _ _ => Or.inr trivial)).1, (r5 q (by omega) (fun _ _ _ => Or.inr trivial)).2, fU_ne (by omega)]
      exact ⟨rfl, rfl⟩
    · intro q hq _
      simp only [fl] at hq
      rw [(r5 q (by omega) (fun _ _ _ => Or.inr trivial)).1, (r5 q (by omega) (fun _ _ _ => Or.inr trivial)).2, fU_ne (by omega), (b5 q (by omega) (fun _ _ _ => Or.inr trivial)).1, (b5 q (by omega) (fun _ _ _ => Or.inr trivial)).2, fU_ne (by omega), (a5 q (by omega) (fun _ _ _ => Or.inr trivial)).1, (a5 q (by omega) (fun _ _ _ => Or.inr trivial)).2]
      exact ⟨rfl, rfl⟩
theorem nest_me {so : Nat → Nat} {n : Nat} {m e m' e' : Nat → Nat} {st : List (Nat × Nat)} {f : Fo} (hf : fl f = n) (hb : wb so 0 f 0 0) (h : nsRun so 0 (nsI m e) n = some (st, m', e')) : me m' e' 0 f := by
  obtain ⟨R', m2, e2, q1, q2, q3, q4, q5⟩ := ns_tree (R := []) (base := []) (m := m) (en := e) hb rfl (fun z hz => by cases hz)
  rw [hf] at q1
  have := (show nsRun so 0 (nsI m e) n = some (R' ++ [], m2, e2) from q1).symm.trans h
  cases this
  exact q4
