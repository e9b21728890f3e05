/-! ===== what both sides compute: the state, and the calls that change it ===== -/
/-- a will: goods (how many, kinds, worths), chests (how many, which), rates, clauses (how many, sorts, two numbers), changes -/
abbrev WT : Type := Nat × (Nat → Nat) × (Nat → Nat) × (Nat → Nat) × (Nat → Nat → Nat) × (Nat → Nat) × Nat × (Nat → Nat) × (Nat → Nat) × (Nat → Nat) × Nat
def wm (W : WT) : Nat := W.1
def wk (W : WT) : Nat → Nat := W.2.1
def ww (W : WT) : Nat → Nat := W.2.2.1
def wcm (W : WT) : Nat → Nat := W.2.2.2.1
def wch (W : WT) : Nat → Nat → Nat := W.2.2.2.2.1
def whu (W : WT) : Nat → Nat := W.2.2.2.2.2.1
def wn (W : WT) : Nat := W.2.2.2.2.2.2.1
def wso (W : WT) : Nat → Nat := W.2.2.2.2.2.2.2.1
def won (W : WT) : Nat → Nat := W.2.2.2.2.2.2.2.2.1
def wot (W : WT) : Nat → Nat := W.2.2.2.2.2.2.2.2.2.1
def wcg (W : WT) : Nat := W.2.2.2.2.2.2.2.2.2.2
def wGoods (W : WT) (m : Nat) (k w : Nat → Nat) : WT := (m, k, w, wcm W, wch W, whu W, wn W, wso W, won W, wot W, wcg W)
def wChest (W : WT) (c : Nat → Nat) (h : Nat → Nat → Nat) : WT := (wm W, wk W, ww W, c, h, whu W, wn W, wso W, won W, wot W, wcg W)
def wRate (W : WT) (h : Nat → Nat) : WT := (wm W, wk W, ww W, wcm W, wch W, h, wn W, wso W, won W, wot W, wcg W)
def wCl (W : WT) (n : Nat) (s o t : Nat → Nat) : WT := (wm W, wk W, ww W, wcm W, wch W, whu W, n, s, o, t, wcg W)
def wChg (W : WT) : WT := (wm W, wk W, ww W, wcm W, wch W, whu W, wn W, wso W, won W, wot W, wcg W + 1)
def f2 (h : Nat → Nat → Nat) (c : Nat) (f : Nat → Nat) : Nat → Nat → Nat := fun q p => if q = c then f p else h q p
/-- an int is a number below n -/
def inB (g : Int32) (n : Nat) : Bool := decide (0 ≤ g) && decide (g ≤ nI n - 1)
theorem inB_iff {g : Int32} {n : Nat} (hn : n < 2147483648) : inB g n = true ↔ ∃ j, j < n ∧ g = nI j := by
  unfold inB
  rw [Bool.and_eq_true, decide_eq_true_eq, decide_eq_true_eq]
  have h1 : (nI n - 1).toInt = (n : Int) - 1 := by
    cases n with
    | zero => decide
    | succ k => rw [nI_pred, nI_toInt (by omega)]; omega
  constructor
  · rintro ⟨h2, h3⟩
    obtain ⟨j, hj, rfl⟩ := nI_of (x := g) (Int32.not_lt.mpr h2)
    rw [Int32.le_iff_toInt_le, nI_toInt hj, h1] at h3
    exact ⟨j, by omega, rfl⟩
  · rintro ⟨j, hj, rfl⟩
    refine ⟨nI_pos' (by omega), ?_⟩
    rw [Int32.le_iff_toInt_le, nI_toInt (by omega), h1]
    omega
theorem inB_n {j n : Nat} (hj : j < 2147483648) (hn : n < 2147483648) : inB (nI j) n = decide (j < n) := by
  rw [Bool.eq_iff_iff, inB_iff hn, decide_eq_true_eq]
  constructor
  · rintro ⟨k, hk, e⟩
    rw [nI_eq hj (by omega)] at e
    omega
  · intro h; exact ⟨j, h, rfl⟩
/-- lo..hi -/
def inR (g : Int32) (lo hi : Nat) : Bool := decide (nI lo ≤ g) && decide (g ≤ nI hi)
theorem inR_iff {g : Int32} {lo hi : Nat} (hl : lo < 2147483648) (hn : hi < 2147483648) : inR g lo hi = true ↔ ∃ j, lo ≤ j ∧ j ≤ hi ∧ g = nI j := by
  unfold inR
  rw [Bool.and_eq_true, decide_eq_true_eq, decide_eq_true_eq]
  constructor
  · rintro ⟨h2, h3⟩
    obtain ⟨j, hj, rfl⟩ := nI_of (x := g) (by
      intro h
      rw [Int32.le_iff_toInt_le, nI_toInt hl] at h2
      rw [Int32.lt_iff_toInt_lt, Int32.toInt_zero] at h
      omega)
    rw [nI_leI hj hn] at h3
    rw [nI_leI hl hj] at h2
    exact ⟨j, h2, h3, rfl⟩
  · rintro ⟨j, h1, h2, rfl⟩
    exact ⟨(nI_leI hl (by omega)).mpr h1, (nI_leI (by omega) hn).mpr h2⟩
theorem inR_n {j lo hi : Nat} (hj : j < 2147483648) (hl : lo < 2147483648) (hn : hi < 2147483648) : inR (nI j) lo hi = decide (lo ≤ j ∧ j ≤ hi) := by
  unfold inR
  rw [Bool.eq_iff_iff, Bool.and_eq_true, decide_eq_true_eq, decide_eq_true_eq, decide_eq_true_eq, nI_leI hl hj, nI_leI hj hn]
/-- the place of g among f 0 .. f (n - 1), the last one, as a successor; 0 if there is none -/
def plF (f : Nat → Nat) (g : Nat) : Nat → Nat
  | 0 => 0
  | n + 1 => if f n = g then n + 1 else plF f g n
theorem plF_le (f : Nat → Nat) (g : Nat) : ∀ n, plF f g n ≤ n
  | 0 => Nat.le_refl _
  | n + 1 => by have := plF_le f g n; unfold plF; split <;> omega
theorem plF_at {f : Nat → Nat} {g : Nat} : ∀ {n p : Nat}, plF f g n = p + 1 → p < n ∧ f p = g
  | 0, p, h => by simp [plF] at h
  | n + 1, p, h => by
    unfold plF at h
    split at h
    · rename_i e
      have : n = p := by omega
      subst this
      exact ⟨by omega, e⟩
    · have := plF_at h
      exact ⟨by omega, this.2⟩
theorem plF_no {f : Nat → Nat} {g : Nat} : ∀ {n : Nat}, plF f g n = 0 → ∀ p, p < n → f p ≠ g
  | 0, _, p, hp => absurd hp (Nat.not_lt_zero p)
  | n + 1, h, p, hp => by
    unfold plF at h
    split at h
    · omega
    · rename_i e
      rcases Nat.lt_or_ge p n with h1 | h1
      · exact plF_no h p h1
      · have : p = n := by omega
        subst this; exact e
theorem plF_congr {f f' : Nat → Nat} {g : Nat} : ∀ {n : Nat}, (∀ p, p < n → f p = f' p) → plF f g n = plF f' g n
  | 0, _ => rfl
  | n + 1, h => by
    unfold plF
    rw [h n (by omega), plF_congr (fun p hp => h p (by omega))]
/-- the place of a good in the chest of its kind -/
def wPl (W : WT) (g : Nat) : Nat := plF (wch W (wk W g)) g (wcm W (wk W g))
/-- one clause fits the goods -/
def clOk (m s o t : Nat) : Prop := s < 10 ∧ ((4 ≤ s ∧ s ≤ 6) → o < 5) ∧ ((s = 2 ∨ s = 3) → o < m) ∧ ((s = 4 ∨ s = 5) → t < m) ∧ ((s < 2 ∨ 6 < s) → o = 0) ∧ ((s ≠ 4 ∧ s ≠ 5) → t = 0)
/-- a will as it can come to be -/
def wOk (W : WT) : Prop := wm W ≤ 8 ∧ wn W ≤ 24 ∧ wcg W ≤ 1000 ∧ (∀ g, g < wm W → wk W g < 3 ∧ 1 ≤ ww W g ∧ ww W g ≤ 99) ∧
  (∀ c, c < 3 → whu W c ≤ 100 ∧ wcm W c ≤ 4 ∧ (∀ p, p < wcm W c → wch W c p < wm W ∧ wk W (wch W c p) = c) ∧ ∀ p q, p < wcm W c → q < wcm W c → wch W c p = wch W c q → p = q) ∧
  ∀ k, k < wn W → clOk (wm W) (wso W k) (won W k) (wot W k)
/-- the whole: the will, those kept (the oldest first), the saved one, the text, the line, the place of the last fault, the last refusal's reason and detail -/
abbrev XT : Type := WT × List WT × Option WT × List Nat × List Nat × Nat × Nat × Int32
def xW (X : XT) : WT := X.1
def xH (X : XT) : List WT := X.2.1
def xS (X : XT) : Option WT := X.2.2.1
def xT (X : XT) : List Nat := X.2.2.2.1
def xL (X : XT) : List Nat := X.2.2.2.2.1
def xE (X : XT) : Nat := X.2.2.2.2.2.1
def xR (X : XT) : Nat := X.2.2.2.2.2.2.1
def xD (X : XT) : Int32 := X.2.2.2.2.2.2.2
def xSetW (X : XT) (W : WT) : XT := (W, xH X, xS X, xT X, xL X, xE X, xR X, xD X)
def xRef (X : XT) (r : Nat) (d : Int32) : XT := (xW X, xH X, xS X, xT X, xL X, xE X, r, d)
/-- a change: what was is kept, eight at the most -/
def xPush (h : List WT) (w : WT) : List WT := (if h.length = 8 then h.drop 1 else h) ++ [w]
def xDo (X : XT) (W : WT) : XT := (wChg W, xPush (xH X) (xW X), xS X, xT X, xL X, xE X, xR X, xD X)
def xOk (X : XT) : Prop := wOk (xW X) ∧ (xH X).length ≤ 8 ∧ (∀ w ∈ xH X, wOk w) ∧ (∀ w, xS X = some w → wOk w) ∧ (xT X).length ≤ 60 ∧ (∀ c ∈ xT X, c < 65536) ∧ (xL X).length ≤ 72 ∧ (∀ c ∈ xL X, c < 65536) ∧ xE X ≤ 61 ∧ xR X ≤ 7
/-- an answer: which exception (0: none), the value, the state behind it -/
abbrev RT : Type := Nat × Int32 × XT
def spGood (X : XT) (k w : Int32) : RT :=
  if ¬ (inR k 0 2 && inR w 1 99) = true then (1, 0, X)
  else if wm (xW X) = 8 then (2, 0, xRef X 1 (nI 8))
  else (0, nI (wm (xW X)), xDo X (wGoods (xW X) (wm (xW X) + 1) (fU (wk (xW X)) (wm (xW X)) k.toNatClampNeg) (fU (ww (xW X)) (wm (xW X)) w.toNatClampNeg)))
def spPut (X : XT) (g c : Int32) : RT :=
  let W := xW X; let i := g.toNatClampNeg; let j := c.toNatClampNeg
  if ¬ inB g (wm W) = true then (1, 0, X) else if ¬ inR c 0 2 = true then (2, 0, X)
  else if wk W i ≠ j then (3, 0, xRef X 4 (nI (wk W i)))
  else if 0 < wPl W i then (3, 0, xRef X 6 (nI (wcm W j)))
  else if wcm W j = 4 then (3, 0, xRef X 5 (nI (wcm W j)))
  else (0, nI (wcm W j + 1), xDo X (wChest W (fU (wcm W) j (wcm W j + 1)) (f2 (wch W) j (fU (wch W j) (wcm W j) i))))
def spTake (X : XT) (g : Int32) : RT :=
  let W := xW X; let i := g.toNatClampNeg; let c := wk W i
  if ¬ inB g (wm W) = true then (1, 0, X)
  else if wPl W i = 0 then (2, 0, xRef X 6 (nI (wcm W c)))
  else (0, nI (wcm W c - 1), xDo X (wChest W (fU (wcm W) c (wcm W c - 1)) (f2 (wch W) c (fun p => if p + 1 < wPl W i then wch W c p else wch W c (p + 1)))))
def spRate (X : XT) (c h : Int32) : RT :=
  let W := xW X; let j := c.toNatClampNeg
  if ¬ (inR c 0 2 && inR h 0 100) = true then (1, 0, X)
  else if whu W j = h.toNatClampNeg then (2, 0, xRef X 7 h)
  else (0, nI (whu W j), xDo X (wRate W (fU (whu W) j h.toNatClampNeg)))
/-- which number of a clause there is no such of (by its detail), if any -/
def clBad (m : Nat) (s : Nat) (o t : Int32) : Option Int32 :=
  if (4 ≤ s ∧ s ≤ 6) ∧ ¬ inR o 0 4 = true then some o
  else if (s = 2 ∨ s = 3) ∧ ¬ inB o m = true then some o
  else if (s = 4 ∨ s = 5) ∧ ¬ inB t m = true then some t
  else none
def clOne (s : Nat) (o : Int32) : Nat := if 2 ≤ s ∧ s ≤ 6 then o.toNatClampNeg else 0
def clTwo (s : Nat) (t : Int32) : Nat := if s = 4 ∨ s = 5 then t.toNatClampNeg else 0
def insF (f : Nat → Nat) (p v : Nat) : Nat → Nat := fun k => if k < p then f k else if k = p then v else f (k - 1)
def delF (f : Nat → Nat) (p : Nat) : Nat → Nat := fun k => if k < p then f k else f (k + 1)
def wIns (W : WT) (p s : Nat) (o t : Int32) : WT := wCl W (wn W + 1) (insF (wso W) p s) (insF (won W) p (clOne s o)) (insF (wot W) p (clTwo s t))
/-- e: the exception of a sort that there is not -/
def spIns (X : XT) (e p : Nat) (s o t : Int32) : RT :=
  let W := xW X; let i := s.toNatClampNeg
  if ¬ inR s 0 9 = true then (e, 0, X)
  else match clBad (wm W) i o t with
    | some dt => (e + 1, 0, xRef X 3 dt)
    | none => if wn W = 24 then (e + 1, 0, xRef X 2 (nI 25)) else (0, nI (wn W + 1), xDo X (wIns W p i o t))
def spAdd (X : XT) (s o t : Int32) : RT := spIns X 1 (wn (xW X)) s o t
def spInsert (X : XT) (p s o t : Int32) : RT := if ¬ inR p 0 (wn (xW X)) = true then (1, 0, X) else spIns X 2 p.toNatClampNeg s o t
def wDel (W : WT) (p : Nat) : WT := wCl W (wn W - 1) (delF (wso W) p) (delF (won W) p) (delF (wot W) p)
def spRemove (X : XT) (p : Int32) : RT := if ¬ inB p (wn (xW X)) = true then (1, 0, X) else (0, nI (wso (xW X) p.toNatClampNeg), xDo X (wDel (xW X) p.toNatClampNeg))
def spUndo (X : XT) : RT := match (xH X).getLast? with
  | none => (1, 0, X)
  | some w => (0, nI ((xH X).length - 1), (w, (xH X).dropLast, xS X, xT X, xL X, xE X, xR X, xD X))
def spSave (X : XT) : RT := (0, nI (wn (xW X)), (xW X, xH X, some (xW X), xT X, xL X, xE X, xR X, xD X))
def spRestore (X : XT) : RT := match xS X with
  | none => (1, 0, X)
  | some w => (0, nI (wn w), (w, [], xS X, xT X, xL X, xE X, xR X, xD X))
def spRefusal (X : XT) (b : Bool) : RT := if xR X = 0 then (1, 0, X) else (0, if b then xD X else nI (xR X), X)
/-- what the model's row says of a will -/
def mR (W : WT) (S : Nat → Nat) : Prop := S 0 = wm W ∧ S 1 = wn W ∧ S 2 = wcg W ∧ (∀ c, c < 3 → S (3 + c) = whu W c ∧ S (6 + c) = wcm W c ∧ ∀ p, p < wcm W c → S (9 + 4 * c + p) = wch W c p) ∧
  (∀ g, g < wm W → S (21 + g) = wk W g ∧ S (29 + g) = ww W g) ∧ ∀ k, k < wn W → S (37 + 3 * k) = wso W k ∧ S (38 + 3 * k) = won W k ∧ S (39 + 3 * k) = wot W k
/-- the model at m is in state X; th: what it says was thrown -/
def MX (B M : mM) (m : Nat) (X : XT) (th : Nat) : Prop := ∃ (F : Nat → Nat) (A : Nat → Nat → Nat), MAt B M m F (xD X) A ∧ xOk X ∧ mR (xW X) (A 1) ∧ F 5 = (xH X).length ∧ (∀ (i : Nat) (w : WT), (xH X)[i]? = some w → mR w (fun j => A 4 (109 * i + j))) ∧
  (match xS X with | none => F 3 = 0 | some w => F 3 = 1 ∧ mR w (A 3)) ∧ F 28 = (xT X).length ∧ (∀ i c, (xT X)[i]? = some c → A 15 i = c) ∧ F 26 = (xL X).length ∧ (∀ i c, (xL X)[i]? = some c → A 14 i = c) ∧ F 29 = xE X ∧ F 7 = xR X ∧ F 6 = th
