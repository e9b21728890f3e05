/-! ===== the model's memory: an object at m, its arrays at m + 1 .. m + 16 (printed by src/gen_model.py) ===== -/
theorem qobj1 : Cond.instanceMethod Lib.objectInit ∈ lw_all := q124
theorem qobj2 : Cond.code Lib.objectInit ⟨#[0xb1]⟩ 1 none ∈ lw_all := q125
/-- a place or -1, by the place's successor or 0 -/
def pI : Nat → Int32
  | 0 => -1
  | p + 1 => nI p
theorem pI_toInt : ∀ p, p < 2147483648 → (pI p).toInt = (p : Int) - 1
  | 0, _ => by decide
  | p + 1, h => by show (nI p).toInt = _; rw [nI_toInt (by omega)]; omega
theorem pI_n {a b : Nat} (ha : a < 2147483648) (hb : b < 2147483648) : pI a = nI b ↔ a = b + 1 := by
  constructor
  · intro h
    have h1 := congrArg Int32.toInt h
    rw [pI_toInt a ha, nI_toInt hb] at h1
    omega
  · rintro rfl; rfl
theorem pI_p {a b : Nat} (ha : a < 2147483648) (hb : b < 2147483648) : pI a = pI b ↔ a = b := by
  constructor
  · intro h
    have h1 := congrArg Int32.toInt h
    rw [pI_toInt a ha, pI_toInt b hb] at h1
    omega
  · rintro rfl; rfl
theorem pI_m {a : Nat} (ha : a < 2147483648) : pI a = -1 ↔ a = 0 := pI_p (b := 0) ha (by decide)
theorem pI_lt {a : Nat} (ha : a < 2147483648) : pI a < 0 ↔ a = 0 := by
  rw [Int32.lt_iff_toInt_lt, pI_toInt a ha, Int32.toInt_zero]; omega
theorem pI_ge {a : Nat} (ha : a < 2147483648) : 0 ≤ pI a ↔ 0 < a := by
  rw [Int32.le_iff_toInt_le, pI_toInt a ha, Int32.toInt_zero]; omega
/-- goods, depths, ploughs in one row: the ploughs' goods are -1 or a good -/
def sE (j x : Nat) : Int32 := if 16 ≤ j % 31 ∧ j % 31 < 21 then pI x else nI x
def fU (f : Nat → Nat) (k v : Nat) : Nat → Nat := fun j => if j = k then v else f j
def fA (A : Nat → Nat → Nat) (i : Nat) (f : Nat → Nat) : Nat → Nat → Nat := fun q => if q = i then f else A q
theorem fU_eq {f : Nat → Nat} {k v : Nat} : fU f k v k = v := by simp [fU]
theorem fU_ne {f : Nat → Nat} {k v j : Nat} (h : j ≠ k) : fU f k v j = f j := by simp [fU, h]
theorem fA_eq {A : Nat → Nat → Nat} {i : Nat} {f : Nat → Nat} : fA A i f i = f := by simp [fA]
theorem fA_ne {A : Nat → Nat → Nat} {i q : Nat} {f : Nat → Nat} (h : q ≠ i) : fA A i f q = A q := by simp [fA, h]
theorem updV_n (f : Nat → Nat) (k v : Nat) : updV (fun j => .int (nI (f j))) k (.int (nI v)) = fun j => .int (nI (fU f k v j)) := by
  funext j
  by_cases h : j = k <;> simp [updV, fU, h]
theorem updV_p (f : Nat → Nat) (k v : Nat) : updV (fun j => .int (pI (f j))) k (.int (pI v)) = fun j => .int (pI (fU f k v j)) := by
  funext j
  by_cases h : j = k <;> simp [updV, fU, h]
theorem updV_s (f : Nat → Nat) (k v : Nat) {x : Int32} (hx : x = sE k v) : updV (fun j => .int (sE j (f j))) k (.int x) = fun j => .int (sE j (fU f k v j)) := by
  subst hx
  funext j
  by_cases h : j = k
  · subst h; simp [updV, fU]
  · simp [updV, fU, h]
def mdF (m : Nat) (F : Nat → Nat) (D : Int32) : List Value := [.ref (m + 1), .ref (m + 2), .ref (m + 3), .int (nI (F 3)), .ref (m + 4), .int (nI (F 5)), .int (nI (F 6)), .int (nI (F 7)), .int D, .ref (m + 5), .ref (m + 6), .ref (m + 7), .ref (m + 8), .ref (m + 9), .int (nI (F 14)), .ref (m + 10), .ref (m + 11), .ref (m + 12), .int (nI (F 18)), .int (nI (F 19)), .int (pI (F 20)), .int (pI (F 21)), .ref (m + 13), .int (nI (F 23)), .int (nI (F 24)), .ref (m + 14), .int (nI (F 26)), .ref (m + 15), .int (nI (F 28)), .int (pI (F 29)), .ref (m + 16)]
def mdC (m : Nat) (F : Nat → Nat) (D : Int32) (A : Nat → Nat → Nat) : Nat → mE
  | 0 => .inr (7, mdF m F D)
  | 1 => .inl (0, 109, fun j => .int (nI (A 1 j)))
  | 2 => .inl (0, 109, fun j => .int (nI (A 2 j)))
  | 3 => .inl (0, 109, fun j => .int (nI (A 3 j)))
  | 4 => .inl (0, 872, fun j => .int (nI (A 4 j)))
  | 5 => .inl (0, 25, fun j => .int (nI (A 5 j)))
  | 6 => .inl (0, 25, fun j => .int (nI (A 6 j)))
  | 7 => .inl (0, 24, fun j => .int (nI (A 7 j)))
  | 8 => .inl (0, 24, fun j => .int (nI (A 8 j)))
  | 9 => .inl (0, 24, fun j => .int (nI (A 9 j)))
  | 10 => .inl (0, 31, fun j => .int (sE j (A 10 j)))
  | 11 => .inl (0, 775, fun j => .int (sE j (A 11 j)))
  | 12 => .inl (0, 775, fun j => .int (sE j (A 12 j)))
  | 13 => .inl (1, 24, fun j => .int (nI (A 13 j)))
  | 14 => .inl (3, 72, fun j => .int (nI (A 14 j)))
  | 15 => .inl (3, 60, fun j => .int (nI (A 15 j)))
  | 16 => .inl (0, 180, fun j => .int (pI (A 16 j)))
  | _ => .inr (7, mdF m F D)
/-- the model at m, all else as in B -/
def MAt (B M : mM) (m : Nat) (F : Nat → Nat) (D : Int32) (A : Nat → Nat → Nat) : Prop := (∀ i, i < 17 → M (m + i) = some (mdC m F D A i)) ∧ ∀ a, (a < m ∨ m + 17 ≤ a) → M a = B a
section MODEL
variable {B M : mM} {m : Nat} {F : Nat → Nat} {D : Int32} {A : Nat → Nat → Nat}
theorem MAt.o (h : MAt B M m F D A) : M m = some (.inr (7, mdF m F D)) := h.1 0 (by decide)
theorem MAt.a1 (h : MAt B M m F D A) : M (m + 1) = some (.inl (0, 109, fun j => .int (nI (A 1 j)))) := h.1 1 (by decide)
theorem MAt.a2 (h : MAt B M m F D A) : M (m + 2) = some (.inl (0, 109, fun j => .int (nI (A 2 j)))) := h.1 2 (by decide)
theorem MAt.a3 (h : MAt B M m F D A) : M (m + 3) = some (.inl (0, 109, fun j => .int (nI (A 3 j)))) := h.1 3 (by decide)
theorem MAt.a4 (h : MAt B M m F D A) : M (m + 4) = some (.inl (0, 872, fun j => .int (nI (A 4 j)))) := h.1 4 (by decide)
theorem MAt.a5 (h : MAt B M m F D A) : M (m + 5) = some (.inl (0, 25, fun j => .int (nI (A 5 j)))) := h.1 5 (by decide)
theorem MAt.a6 (h : MAt B M m F D A) : M (m + 6) = some (.inl (0, 25, fun j => .int (nI (A 6 j)))) := h.1 6 (by decide)
theorem MAt.a7 (h : MAt B M m F D A) : M (m + 7) = some (.inl (0, 24, fun j => .int (nI (A 7 j)))) := h.1 7 (by decide)
theorem MAt.a8 (h : MAt B M m F D A) : M (m + 8) = some (.inl (0, 24, fun j => .int (nI (A 8 j)))) := h.1 8 (by decide)
theorem MAt.a9 (h : MAt B M m F D A) : M (m + 9) = some (.inl (0, 24, fun j => .int (nI (A 9 j)))) := h.1 9 (by decide)
theorem MAt.a10 (h : MAt B M m F D A) : M (m + 10) = some (.inl (0, 31, fun j => .int (sE j (A 10 j)))) := h.1 10 (by decide)
theorem MAt.a11 (h : MAt B M m F D A) : M (m + 11) = some (.inl (0, 775, fun j => .int (sE j (A 11 j)))) := h.1 11 (by decide)
theorem MAt.a12 (h : MAt B M m F D A) : M (m + 12) = some (.inl (0, 775, fun j => .int (sE j (A 12 j)))) := h.1 12 (by decide)
theorem MAt.a13 (h : MAt B M m F D A) : M (m + 13) = some (.inl (1, 24, fun j => .int (nI (A 13 j)))) := h.1 13 (by decide)
theorem MAt.a14 (h : MAt B M m F D A) : M (m + 14) = some (.inl (3, 72, fun j => .int (nI (A 14 j)))) := h.1 14 (by decide)
theorem MAt.a15 (h : MAt B M m F D A) : M (m + 15) = some (.inl (3, 60, fun j => .int (nI (A 15 j)))) := h.1 15 (by decide)
theorem MAt.a16 (h : MAt B M m F D A) : M (m + 16) = some (.inl (0, 180, fun j => .int (pI (A 16 j)))) := h.1 16 (by decide)
theorem MAt.st {F' : Nat → Nat} {D' : Int32} {A' : Nat → Nat → Nat} (h : MAt B M m F D A) (i : Nat) (hi : i < 17) (e : mE) (he : mdC m F' D' A' i = e) (ho : ∀ j, j < 17 → j ≠ i → mdC m F' D' A' j = mdC m F D A j) : MAt B (mset M (m + i) e) m F' D' A' := by
  refine ⟨fun j hj => ?_, fun a ha => ?_⟩
  · by_cases hji : j = i
    · subst hji
      rw [mset_eq, he]
    · rw [mset_ne (by omega), ho j hj hji]
      exact h.1 j hj
  · rw [mset_ne (by omega)]
    exact h.2 a ha
variable {G : mG} {y : mY} {d pc t u : Nat} {L : List (Option Value)} {st : List Value} {Q : mQt}
theorem MAt.w1 (h : MAt B M m F D A) (f : Nat → Nat) : MAt B (mset M (m + 1) (.inl (0, 109, fun j => .int (nI (f j))))) m F D (fA A 1 f) :=
  h.st 1 (by decide) _ (by simp [mdC, fA]) (fun j hj hn => match j, hj, hn with
    | 0, _, hn => by first | rfl | exact absurd rfl hn
    | 1, _, hn => by first | rfl | exact absurd rfl hn
    | 2, _, hn => by first | rfl | exact absurd rfl hn
    | 3, _, hn => by first | rfl | exact absurd rfl hn
    | 4, _, hn => by first | rfl | exact absurd rfl hn
    | 5, _, hn => by first | rfl | exact absurd rfl hn
    | 6, _, hn => by first | rfl | exact absurd rfl hn
    | 7, _, hn => by first | rfl | exact absurd rfl hn
    | 8, _, hn => by first | rfl | exact absurd rfl hn
    | 9, _, hn => by first | rfl | exact absurd rfl hn
    | 10, _, hn => by first | rfl | exact absurd rfl hn
    | 11, _, hn => by first | rfl | exact absurd rfl hn
    | 12, _, hn => by first | rfl | exact absurd rfl hn
    | 13, _, hn => by first | rfl | exact absurd rfl hn
    | 14, _, hn => by first | rfl | exact absurd rfl hn
    | 15, _, hn => by first | rfl | exact absurd rfl hn
    | 16, _, hn => by first | rfl | exact absurd rfl hn
    | j + 17, hj, _ => absurd hj (by omega))
theorem MAt.k1 {f : Nat → Nat} (h : MAt B M m F D A) (kk : ∀ M, MAt B M m F D (fA A 1 f) → mW G y d pc L st M t u Q) : mW G y d pc L st (mset M (m + 1) (.inl (0, 109, fun j => .int (nI (f j))))) t u Q := kk _ (h.w1 f)
theorem MAt.g1 {k x : Nat} (h : MAt B M m F D A) (kk : ∀ M, MAt B M m F D (fA A 1 (fU (A 1) k x)) → mW G y d pc L st M t u Q) : mW G y d pc L st (mset M (m + 1) (.inl (0, 109, updV (fun j => .int (nI (A 1 j))) k (.int (nI x))))) t u Q := by
  rw [updV_n]; exact kk _ (h.w1 _)
theorem MAt.w2 (h : MAt B M m F D A) (f : Nat → Nat) : MAt B (mset M (m + 2) (.inl (0, 109, fun j => .int (nI (f j))))) m F D (fA A 2 f) :=
  h.st 2 (by decide) _ (by simp [mdC, fA]) (fun j hj hn => match j, hj, hn with
    | 0, _, hn => by first | rfl | exact absurd rfl hn
    | 1, _, hn => by first | rfl | exact absurd rfl hn
    | 2, _, hn => by first | rfl | exact absurd rfl hn
    | 3, _, hn => by first | rfl | exact absurd rfl hn
    | 4, _, hn => by first | rfl | exact absurd rfl hn
    | 5, _, hn => by first | rfl | exact absurd rfl hn
    | 6, _, hn => by first | rfl | exact absurd rfl hn
    | 7, _, hn => by first | rfl | exact absurd rfl hn
    | 8, _, hn => by first | rfl | exact absurd rfl hn
    | 9, _, hn => by first | rfl | exact absurd rfl hn
    | 10, _, hn => by first | rfl | exact absurd rfl hn
    | 11, _, hn => by first | rfl | exact absurd rfl hn
    | 12, _, hn => by first | rfl | exact absurd rfl hn
    | 13, _, hn => by first | rfl | exact absurd rfl hn
    | 14, _, hn => by first | rfl | exact absurd rfl hn
    | 15, _, hn => by first | rfl | exact absurd rfl hn
    | 16, _, hn => by first | rfl | exact absurd rfl hn
    | j + 17, hj, _ => absurd hj (by omega))
theorem MAt.k2 {f : Nat → Nat} (h : MAt B M m F D A) (kk : ∀ M, MAt B M m F D (fA A 2 f) → mW G y d pc L st M t u Q) : mW G y d pc L st (mset M (m + 2) (.inl (0, 109, fun j => .int (nI (f j))))) t u Q := kk _ (h.w2 f)
theorem MAt.g2 {k x : Nat} (h : MAt B M m F D A) (kk : ∀ M, MAt B M m F D (fA A 2 (fU (A 2) k x)) → mW G y d pc L st M t u Q) : mW G y d pc L st (mset M (m + 2) (.inl (0, 109, updV (fun j => .int (nI (A 2 j))) k (.int (nI x))))) t u Q := by
  rw [updV_n]; exact kk _ (h.w2 _)
theorem MAt.w3 (h : MAt B M m F D A) (f : Nat → Nat) : MAt B (mset M (m + 3) (.inl (0, 109, fun j => .int (nI (f j))))) m F D (fA A 3 f) :=
  h.st 3 (by decide) _ (by simp [mdC, fA]) (fun j hj hn => match j, hj, hn with
    | 0, _, hn => by first | rfl | exact absurd rfl hn
    | 1, _, hn => by first | rfl | exact absurd rfl hn
    | 2, _, hn => by first | rfl | exact absurd rfl hn
    | 3, _, hn => by first | rfl | exact absurd rfl hn
    | 4, _, hn => by first | rfl | exact absurd rfl hn
    | 5, _, hn => by first | rfl | exact absurd rfl hn
    | 6, _, hn => by first | rfl | exact absurd rfl hn
    | 7, _, hn => by first | rfl | exact absurd rfl hn
    | 8, _, hn => by first | rfl | exact absurd rfl hn
    | 9, _, hn => by first | rfl | exact absurd rfl hn
    | 10, _, hn => by first | rfl | exact absurd rfl hn
    | 11, _, hn => by first | rfl | exact absurd rfl hn
    | 12, _, hn => by first | rfl | exact absurd rfl hn
    | 13, _, hn => by first | rfl | exact absurd rfl hn
    | 14, _, hn => by first | rfl | exact absurd rfl hn
    | 15, _, hn => by first | rfl | exact absurd rfl hn
    | 16, _, hn => by first | rfl | exact absurd rfl hn
    | j + 17, hj, _ => absurd hj (by omega))
theorem MAt.k3 {f : Nat → Nat} (h : MAt B M m F D A) (kk : ∀ M, MAt B M m F D (fA A 3 f) → mW G y d pc L st M t u Q) : mW G y d pc L st (mset M (m + 3) (.inl (0, 109, fun j => .int (nI (f j))))) t u Q := kk _ (h.w3 f)
theorem MAt.g3 {k x : Nat} (h : MAt B M m F D A) (kk : ∀ M, MAt B M m F D (fA A 3 (fU (A 3) k x)) → mW G y d pc L st M t u Q) : mW G y d pc L st (mset M (m + 3) (.inl (0, 109, updV (fun j => .int (nI (A 3 j))) k (.int (nI x))))) t u Q := by
  rw [updV_n]; exact kk _ (h.w3 _)
theorem MAt.w4 (h : MAt B M m F D A) (f : Nat → Nat) : MAt B (mset M (m + 4) (.inl (0, 872, fun j => .int (nI (f j))))) m F D (fA A 4 f) :=
  h.st 4 (by decide) _ (by simp [mdC, fA]) (fun j hj hn => match j, hj, hn with
    | 0, _, hn => by first | rfl | exact absurd rfl hn
    | 1, _, hn => by first | rfl | exact absurd rfl hn
    | 2, _, hn => by first | rfl | exact absurd rfl hn
    | 3, _, hn => by first | rfl | exact absurd rfl hn
    | 4, _, hn => by first | rfl | exact absurd rfl hn
    | 5, _, hn => by first | rfl | exact absurd rfl hn
    | 6, _, hn => by first | rfl | exact absurd rfl hn
    | 7, _, hn => by first | rfl | exact absurd rfl hn
    | 8, _, hn => by first | rfl | exact absurd rfl hn
    | 9, _, hn => by first | rfl | exact absurd rfl hn
    | 10, _, hn => by first | rfl | exact absurd rfl hn
    | 11, _, hn => by first | rfl | exact absurd rfl hn
    | 12, _, hn => by first | rfl | exact absurd rfl hn
    | 13, _, hn => by first | rfl | exact absurd rfl hn
    | 14, _, hn => by first | rfl | exact absurd rfl hn
    | 15, _, hn => by first | rfl | exact absurd rfl hn
    | 16, _, hn => by first | rfl | exact absurd rfl hn
    | j + 17, hj, _ => absurd hj (by omega))
theorem MAt.k4 {f : Nat → Nat} (h : MAt B M m F D A) (kk : ∀ M, MAt B M m F D (fA A 4 f) → mW G y d pc L st M t u Q) : mW G y d pc L st (mset M (m + 4) (.inl (0, 872, fun j => .int (nI (f j))))) t u Q := kk _ (h.w4 f)
theorem MAt.g4 {k x : Nat} (h : MAt B M m F D A) (kk : ∀ M, MAt B M m F D (fA A 4 (fU (A 4) k x)) → mW G y d pc L st M t u Q) : mW G y d pc L st (mset M (m + 4) (.inl (0, 872, updV (fun j => .int (nI (A 4 j))) k (.int (nI x))))) t u Q := by
  rw [updV_n]; exact kk _ (h.w4 _)
theorem MAt.w5 (h : MAt B M m F D A) (f : Nat → Nat) : MAt B (mset M (m + 5) (.inl (0, 25, fun j => .int (nI (f j))))) m F D (fA A 5 f) :=
  h.st 5 (by decide) _ (by simp [mdC, fA]) (fun j hj hn => match j, hj, hn with
    | 0, _, hn => by first | rfl | exact absurd rfl hn
    | 1, _, hn => by first | rfl | exact absurd rfl hn
    | 2, _, hn => by first | rfl | exact absurd rfl hn
    | 3, _, hn => by first | rfl | exact absurd rfl hn
    | 4, _, hn => by first | rfl | exact absurd rfl hn
    | 5, _, hn => by first | rfl | exact absurd rfl hn
    | 6, _, hn => by first | rfl | exact absurd rfl hn
    | 7, _, hn => by first | rfl | exact absurd rfl hn
    | 8, _, hn => by first | rfl | exact absurd rfl hn
    | 9, _, hn => by first | rfl | exact absurd rfl hn
    | 10, _, hn => by first | rfl | exact absurd rfl hn
    | 11, _, hn => by first | rfl | exact absurd rfl hn
    | 12, _, hn => by first | rfl | exact absurd rfl hn
    | 13, _, hn => by first | rfl | exact absurd rfl hn
    | 14, _, hn => by first | rfl | exact absurd rfl hn
    | 15, _, hn => by first | rfl | exact absurd rfl hn
    | 16, _, hn => by first | rfl | exact absurd rfl hn
    | j + 17, hj, _ => absurd hj (by omega))
theorem MAt.k5 {f : Nat → Nat} (h : MAt B M m F D A) (kk : ∀ M, MAt B M m F D (fA A 5 f) → mW G y d pc L st M t u Q) : mW G y d pc L st (mset M (m + 5) (.inl (0, 25, fun j => .int (nI (f j))))) t u Q := kk _ (h.w5 f)
theorem MAt.g5 {k x : Nat} (h : MAt B M m F D A) (kk : ∀ M, MAt B M m F D (fA A 5 (fU (A 5) k x)) → mW G y d pc L st M t u Q) : mW G y d pc L st (mset M (m + 5) (.inl (0, 25, updV (fun j => .int (nI (A 5 j))) k (.int (nI x))))) t u Q := by
  rw [updV_n]; exact kk _ (h.w5 _)
theorem MAt.w6 (h : MAt B M m F D A) (f : Nat → Nat) : MAt B (mset M (m + 6) (.inl (0, 25, fun j => .int (nI (f j))))) m F D (fA A 6 f) :=
  h.st 6 (by decide) _ (by simp [mdC, fA]) (fun j hj hn => match j, hj, hn with
    | 0, _, hn => by first | rfl | exact absurd rfl hn
    | 1, _, hn => by first | rfl | exact absurd rfl hn
    | 2, _, hn => by first | rfl | exact absurd rfl hn
    | 3, _, hn => by first | rfl | exact absurd rfl hn
    | 4, _, hn => by first | rfl | exact absurd rfl hn
    | 5, _, hn => by first | rfl | exact absurd rfl hn
    | 6, _, hn => by first | rfl | exact absurd rfl hn
    | 7, _, hn => by first | rfl | exact absurd rfl hn
    | 8, _, hn => by first | rfl | exact absurd rfl hn
    | 9, _, hn => by first | rfl | exact absurd rfl hn
    | 10, _, hn => by first | rfl | exact absurd rfl hn
    | 11, _, hn => by first | rfl | exact absurd rfl hn
    | 12, _, hn => by first | rfl | exact absurd rfl hn
    | 13, _, hn => by first | rfl | exact absurd rfl hn
    | 14, _, hn => by first | rfl | exact absurd rfl hn
    | 15, _, hn => by first | rfl | exact absurd rfl hn
    | 16, _, hn => by first | rfl | exact absurd rfl hn
    | j + 17, hj, _ => absurd hj (by omega))
theorem MAt.k6 {f : Nat → Nat} (h : MAt B M m F D A) (kk : ∀ M, MAt B M m F D (fA A 6 f) → mW G y d pc L st M t u Q) : mW G y d pc L st (mset M (m + 6) (.inl (0, 25, fun j => .int (nI (f j))))) t u Q := kk _ (h.w6 f)
theorem MAt.g6 {k x : Nat} (h : MAt B M m F D A) (kk : ∀ M, MAt B M m F D (fA A 6 (fU (A 6) k x)) → mW G y d pc L st M t u Q) : mW G y d pc L st (mset M (m + 6) (.inl (0, 25, updV (fun j => .int (nI (A 6 j))) k (.int (nI x))))) t u Q := by
  rw [updV_n]; exact kk _ (h.w6 _)
theorem MAt.w7 (h : MAt B M m F D A) (f : Nat → Nat) : MAt B (mset M (m + 7) (.inl (0, 24, fun j => .int (nI (f j))))) m F D (fA A 7 f) :=
  h.st 7 (by decide) _ (by simp [mdC, fA]) (fun j hj hn => match j, hj, hn with
    | 0, _, hn => by first | rfl | exact absurd rfl hn
    | 1, _, hn => by first | rfl | exact absurd rfl hn
    | 2, _, hn => by first | rfl | exact absurd rfl hn
    | 3, _, hn => by first | rfl | exact absurd rfl hn
    | 4, _, hn => by first | rfl | exact absurd rfl hn
    | 5, _, hn => by first | rfl | exact absurd rfl hn
    | 6, _, hn => by first | rfl | exact absurd rfl hn
    | 7, _, hn => by first | rfl | exact absurd rfl hn
    | 8, _, hn => by first | rfl | exact absurd rfl hn
    | 9, _, hn => by first | rfl | exact absurd rfl hn
    | 10, _, hn => by first | rfl | exact absurd rfl hn
    | 11, _, hn => by first | rfl | exact absurd rfl hn
    | 12, _, hn => by first | rfl | exact absurd rfl hn
    | 13, _, hn => by first | rfl | exact absurd rfl hn
    | 14, _, hn => by first | rfl | exact absurd rfl hn
    | 15, _, hn => by first | rfl | exact absurd rfl hn
    | 16, _, hn => by first | rfl | exact absurd rfl hn
    | j + 17, hj, _ => absurd hj (by omega))
theorem MAt.k7 {f : Nat → Nat} (h : MAt B M m F D A) (kk : ∀ M, MAt B M m F D (fA A 7 f) → mW G y d pc L st M t u Q) : mW G y d pc L st (mset M (m + 7) (.inl (0, 24, fun j => .int (nI (f j))))) t u Q := kk _ (h.w7 f)
theorem MAt.g7 {k x : Nat} (h : MAt B M m F D A) (kk : ∀ M, MAt B M m F D (fA A 7 (fU (A 7) k x)) → mW G y d pc L st M t u Q) : mW G y d pc L st (mset M (m + 7) (.inl (0, 24, updV (fun j => .int (nI (A 7 j))) k (.int (nI x))))) t u Q := by
  rw [updV_n]; exact kk _ (h.w7 _)
theorem MAt.w8 (h : MAt B M m F D A) (f : Nat → Nat) : MAt B (mset M (m + 8) (.inl (0, 24, fun j => .int (nI (f j))))) m F D (fA A 8 f) :=
  h.st 8 (by decide) _ (by simp [mdC, fA]) (fun j hj hn => match j, hj, hn with
    | 0, _, hn => by first | rfl | exact absurd rfl hn
    | 1, _, hn => by first | rfl | exact absurd rfl hn
    | 2, _, hn => by first | rfl | exact absurd rfl hn
    | 3, _, hn => by first | rfl | exact absurd rfl hn
    | 4, _, hn => by first | rfl | exact absurd rfl hn
    | 5, _, hn => by first | rfl | exact absurd rfl hn
    | 6, _, hn => by first | rfl | exact absurd rfl hn
    | 7, _, hn => by first | rfl | exact absurd rfl hn
    | 8, _, hn => by first | rfl | exact absurd rfl hn
    | 9, _, hn => by first | rfl | exact absurd rfl hn
    | 10, _, hn => by first | rfl | exact absurd rfl hn
    | 11, _, hn => by first | rfl | exact absurd rfl hn
    | 12, _, hn => by first | rfl | exact absurd rfl hn
    | 13, _, hn => by first | rfl | exact absurd rfl hn
    | 14, _, hn => by first | rfl | exact absurd rfl hn
    | 15, _, hn => by first | rfl | exact absurd rfl hn
    | 16, _, hn => by first | rfl | exact absurd rfl hn
    | j + 17, hj, _ => absurd hj (by omega))
theorem MAt.k8 {f : Nat → Nat} (h : MAt B M m F D A) (kk : ∀ M, MAt B M m F D (fA A 8 f) → mW G y d pc L st M t u Q) : mW G y d pc L st (mset M (m + 8) (.inl (0, 24, fun j => .int (nI (f j))))) t u Q := kk _ (h.w8 f)
theorem MAt.g8 {k x : Nat} (h : MAt B M m F D A) (kk : ∀ M, MAt B M m F D (fA A 8 (fU (A 8) k x)) → mW G y d pc L st M t u Q) : mW G y d pc L st (mset M (m + 8) (.inl (0, 24, updV (fun j => .int (nI (A 8 j))) k (.int (nI x))))) t u Q := by
  rw [updV_n]; exact kk _ (h.w8 _)
theorem MAt.w9 (h : MAt B M m F D A) (f : Nat → Nat) : MAt B (mset M (m + 9) (.inl (0, 24, fun j => .int (nI (f j))))) m F D (fA A 9 f) :=
  h.st 9 (by decide) _ (by simp [mdC, fA]) (fun j hj hn => match j, hj, hn with
    | 0, _, hn => by first | rfl | exact absurd rfl hn
    | 1, _, hn => by first | rfl | exact absurd rfl hn
    | 2, _, hn => by first | rfl | exact absurd rfl hn
    | 3, _, hn => by first | rfl | exact absurd rfl hn
    | 4, _, hn => by first | rfl | exact absurd rfl hn
    | 5, _, hn => by first | rfl | exact absurd rfl hn
    | 6, _, hn => by first | rfl | exact absurd rfl hn
    | 7, _, hn => by first | rfl | exact absurd rfl hn
    | 8, _, hn => by first | rfl | exact absurd rfl hn
    | 9, _, hn => by first | rfl | exact absurd rfl hn
    | 10, _, hn => by first | rfl | exact absurd rfl hn
    | 11, _, hn => by first | rfl | exact absurd rfl hn
    | 12, _, hn => by first | rfl | exact absurd rfl hn
    | 13, _, hn => by first | rfl | exact absurd rfl hn
    | 14, _, hn => by first | rfl | exact absurd rfl hn
    | 15, _, hn => by first | rfl | exact absurd rfl hn
    | 16, _, hn => by first | rfl | exact absurd rfl hn
    | j + 17, hj, _ => absurd hj (by omega))
theorem MAt.k9 {f : Nat → Nat} (h : MAt B M m F D A) (kk : ∀ M, MAt B M m F D (fA A 9 f) → mW G y d pc L st M t u Q) : mW G y d pc L st (mset M (m + 9) (.inl (0, 24, fun j => .int (nI (f j))))) t u Q := kk _ (h.w9 f)
theorem MAt.g9 {k x : Nat} (h : MAt B M m F D A) (kk : ∀ M, MAt B M m F D (fA A 9 (fU (A 9) k x)) → mW G y d pc L st M t u Q) : mW G y d pc L st (mset M (m + 9) (.inl (0, 24, updV (fun j => .int (nI (A 9 j))) k (.int (nI x))))) t u Q := by
  rw [updV_n]; exact kk _ (h.w9 _)
theorem MAt.w10 (h : MAt B M m F D A) (f : Nat → Nat) : MAt B (mset M (m + 10) (.inl (0, 31, fun j => .int (sE j (f j))))) m F D (fA A 10 f) :=
  h.st 10 (by decide) _ (by simp [mdC, fA]) (fun j hj hn => match j, hj, hn with
    | 0, _, hn => by first | rfl | exact absurd rfl hn
    | 1, _, hn => by first | rfl | exact absurd rfl hn
    | 2, _, hn => by first | rfl | exact absurd rfl hn
    | 3, _, hn => by first | rfl | exact absurd rfl hn
    | 4, _, hn => by first | rfl | exact absurd rfl hn
    | 5, _, hn => by first | rfl | exact absurd rfl hn
    | 6, _, hn => by first | rfl | exact absurd rfl hn
    | 7, _, hn => by first | rfl | exact absurd rfl hn
    | 8, _, hn => by first | rfl | exact absurd rfl hn
    | 9, _, hn => by first | rfl | exact absurd rfl hn
    | 10, _, hn => by first | rfl | exact absurd rfl hn
    | 11, _, hn => by first | rfl | exact absurd rfl hn
    | 12, _, hn => by first | rfl | exact absurd rfl hn
    | 13, _, hn => by first | rfl | exact absurd rfl hn
    | 14, _, hn => by first | rfl | exact absurd rfl hn
    | 15, _, hn => by first | rfl | exact absurd rfl hn
    | 16, _, hn => by first | rfl | exact absurd rfl hn
    | j + 17, hj, _ => absurd hj (by omega))
theorem MAt.k10 {f : Nat → Nat} (h : MAt B M m F D A) (kk : ∀ M, MAt B M m F D (fA A 10 f) → mW G y d pc L st M t u Q) : mW G y d pc L st (mset M (m + 10) (.inl (0, 31, fun j => .int (sE j (f j))))) t u Q := kk _ (h.w10 f)
theorem MAt.g10 {k : Nat} (x : Nat) {v : Int32} (h : MAt B M m F D A) (hv : v = sE k x) (kk : ∀ M, MAt B M m F D (fA A 10 (fU (A 10) k x)) → mW G y d pc L st M t u Q) : mW G y d pc L st (mset M (m + 10) (.inl (0, 31, updV (fun j => .int (sE j (A 10 j))) k (.int v)))) t u Q := by
  rw [updV_s _ _ x hv]; exact kk _ (h.w10 _)
theorem MAt.w11 (h : MAt B M m F D A) (f : Nat → Nat) : MAt B (mset M (m + 11) (.inl (0, 775, fun j => .int (sE j (f j))))) m F D (fA A 11 f) :=
  h.st 11 (by decide) _ (by simp [mdC, fA]) (fun j hj hn => match j, hj, hn with
    | 0, _, hn => by first | rfl | exact absurd rfl hn
    | 1, _, hn => by first | rfl | exact absurd rfl hn
    | 2, _, hn => by first | rfl | exact absurd rfl hn
    | 3, _, hn => by first | rfl | exact absurd rfl hn
    | 4, _, hn => by first | rfl | exact absurd rfl hn
    | 5, _, hn => by first | rfl | exact absurd rfl hn
    | 6, _, hn => by first | rfl | exact absurd rfl hn
    | 7, _, hn => by first | rfl | exact absurd rfl hn
    | 8, _, hn => by first | rfl | exact absurd rfl hn
    | 9, _, hn => by first | rfl | exact absurd rfl hn
    | 10, _, hn => by first | rfl | exact absurd rfl hn
    | 11, _, hn => by first | rfl | exact absurd rfl hn
    | 12, _, hn => by first | rfl | exact absurd rfl hn
    | 13, _, hn => by first | rfl | exact absurd rfl hn
    | 14, _, hn => by first | rfl | exact absurd rfl hn
    | 15, _, hn => by first | rfl | exact absurd rfl hn
    | 16, _, hn => by first | rfl | exact absurd rfl hn
    | j + 17, hj, _ => absurd hj (by omega))
theorem MAt.k11 {f : Nat → Nat} (h : MAt B M m F D A) (kk : ∀ M, MAt B M m F D (fA A 11 f) → mW G y d pc L st M t u Q) : mW G y d pc L st (mset M (m + 11) (.inl (0, 775, fun j => .int (sE j (f j))))) t u Q := kk _ (h.w11 f)
theorem MAt.g11 {k : Nat} (x : Nat) {v : Int32} (h : MAt B M m F D A) (hv : v = sE k x) (kk : ∀ M, MAt B M m F D (fA A 11 (fU (A 11) k x)) → mW G y d pc L st M t u Q) : mW G y d pc L st (mset M (m + 11) (.inl (0, 775, updV (fun j => .int (sE j (A 11 j))) k (.int v)))) t u Q := by
  rw [updV_s _ _ x hv]; exact kk _ (h.w11 _)
theorem MAt.w12 (h : MAt B M m F D A) (f : Nat → Nat) : MAt B (mset M (m + 12) (.inl (0, 775, fun j => .int (sE j (f j))))) m F D (fA A 12 f) :=
  h.st 12 (by decide) _ (by simp [mdC, fA]) (fun j hj hn => match j, hj, hn with
    | 0, _, hn => by first | rfl | exact absurd rfl hn
    | 1, _, hn => by first | rfl | exact absurd rfl hn
    | 2, _, hn => by first | rfl | exact absurd rfl hn
    | 3, _, hn => by first | rfl | exact absurd rfl hn
    | 4, _, hn => by first | rfl | exact absurd rfl hn
    | 5, _, hn => by first | rfl | exact absurd rfl hn
    | 6, _, hn => by first | rfl | exact absurd rfl hn
    | 7, _, hn => by first | rfl | exact absurd rfl hn
    | 8, _, hn => by first | rfl | exact absurd rfl hn
    | 9, _, hn => by first | rfl | exact absurd rfl hn
    | 10, _, hn => by first | rfl | exact absurd rfl hn
    | 11, _, hn => by first | rfl | exact absurd rfl hn
    | 12, _, hn => by first | rfl | exact absurd rfl hn
    | 13, _, hn => by first | rfl | exact absurd rfl hn
    | 14, _, hn => by first | rfl | exact absurd rfl hn
    | 15, _, hn => by first | rfl | exact absurd rfl hn
    | 16, _, hn => by first | rfl | exact absurd rfl hn
    | j + 17, hj, _ => absurd hj (by omega))
theorem MAt.k12 {f : Nat → Nat} (h : MAt B M m F D A) (kk : ∀ M, MAt B M m F D (fA A 12 f) → mW G y d pc L st M t u Q) : mW G y d pc L st (mset M (m + 12) (.inl (0, 775, fun j => .int (sE j (f j))))) t u Q := kk _ (h.w12 f)
theorem MAt.g12 {k : Nat} (x : Nat) {v : Int32} (h : MAt B M m F D A) (hv : v = sE k x) (kk : ∀ M, MAt B M m F D (fA A 12 (fU (A 12) k x)) → mW G y d pc L st M t u Q) : mW G y d pc L st (mset M (m + 12) (.inl (0, 775, updV (fun j => .int (sE j (A 12 j))) k (.int v)))) t u Q := by
  rw [updV_s _ _ x hv]; exact kk _ (h.w12 _)
theorem MAt.w13 (h : MAt B M m F D A) (f : Nat → Nat) : MAt B (mset M (m + 13) (.inl (1, 24, fun j => .int (nI (f j))))) m F D (fA A 13 f) :=
  h.st 13 (by decide) _ (by simp [mdC, fA]) (fun j hj hn => match j, hj, hn with
    | 0, _, hn => by first | rfl | exact absurd rfl hn
    | 1, _, hn => by first | rfl | exact absurd rfl hn
    | 2, _, hn => by first | rfl | exact absurd rfl hn
    | 3, _, hn => by first | rfl | exact absurd rfl hn
    | 4, _, hn => by first | rfl | exact absurd rfl hn
    | 5, _, hn => by first | rfl | exact absurd rfl hn
    | 6, _, hn => by first | rfl | exact absurd rfl hn
    | 7, _, hn => by first | rfl | exact absurd rfl hn
    | 8, _, hn => by first | rfl | exact absurd rfl hn
    | 9, _, hn => by first | rfl | exact absurd rfl hn
    | 10, _, hn => by first | rfl | exact absurd rfl hn
    | 11, _, hn => by first | rfl | exact absurd rfl hn
    | 12, _, hn => by first | rfl | exact absurd rfl hn
    | 13, _, hn => by first | rfl | exact absurd rfl hn
    | 14, _, hn => by first | rfl | exact absurd rfl hn
    | 15, _, hn => by first | rfl | exact absurd rfl hn
    | 16, _, hn => by first | rfl | exact absurd rfl hn
    | j + 17, hj, _ => absurd hj (by omega))
theorem MAt.k13 {f : Nat → Nat} (h : MAt B M m F D A) (kk : ∀ M, MAt B M m F D (fA A 13 f) → mW G y d pc L st M t u Q) : mW G y d pc L st (mset M (m + 13) (.inl (1, 24, fun j => .int (nI (f j))))) t u Q := kk _ (h.w13 f)
theorem MAt.g13 {k x : Nat} (h : MAt B M m F D A) (kk : ∀ M, MAt B M m F D (fA A 13 (fU (A 13) k x)) → mW G y d pc L st M t u Q) : mW G y d pc L st (mset M (m + 13) (.inl (1, 24, updV (fun j => .int (nI (A 13 j))) k (.int (nI x))))) t u Q := by
  rw [updV_n]; exact kk _ (h.w13 _)
theorem MAt.w14 (h : MAt B M m F D A) (f : Nat → Nat) : MAt B (mset M (m + 14) (.inl (3, 72, fun j => .int (nI (f j))))) m F D (fA A 14 f) :=
  h.st 14 (by decide) _ (by simp [mdC, fA]) (fun j hj hn => match j, hj, hn with
    | 0, _, hn => by first | rfl | exact absurd rfl hn
    | 1, _, hn => by first | rfl | exact absurd rfl hn
    | 2, _, hn => by first | rfl | exact absurd rfl hn
    | 3, _, hn => by first | rfl | exact absurd rfl hn
    | 4, _, hn => by first | rfl | exact absurd rfl hn
    | 5, _, hn => by first | rfl | exact absurd rfl hn
    | 6, _, hn => by first | rfl | exact absurd rfl hn
    | 7, _, hn => by first | rfl | exact absurd rfl hn
    | 8, _, hn => by first | rfl | exact absurd rfl hn
    | 9, _, hn => by first | rfl | exact absurd rfl hn
    | 10, _, hn => by first | rfl | exact absurd rfl hn
    | 11, _, hn => by first | rfl | exact absurd rfl hn
    | 12, _, hn => by first | rfl | exact absurd rfl hn
    | 13, _, hn => by first | rfl | exact absurd rfl hn
    | 14, _, hn => by first | rfl | exact absurd rfl hn
    | 15, _, hn => by first | rfl | exact absurd rfl hn
    | 16, _, hn => by first | rfl | exact absurd rfl hn
    | j + 17, hj, _ => absurd hj (by omega))
theorem MAt.k14 {f : Nat → Nat} (h : MAt B M m F D A) (kk : ∀ M, MAt B M m F D (fA A 14 f) → mW G y d pc L st M t u Q) : mW G y d pc L st (mset M (m + 14) (.inl (3, 72, fun j => .int (nI (f j))))) t u Q := kk _ (h.w14 f)
theorem MAt.g14 {k x : Nat} (h : MAt B M m F D A) (kk : ∀ M, MAt B M m F D (fA A 14 (fU (A 14) k x)) → mW G y d pc L st M t u Q) : mW G y d pc L st (mset M (m + 14) (.inl (3, 72, updV (fun j => .int (nI (A 14 j))) k (.int (nI x))))) t u Q := by
  rw [updV_n]; exact kk _ (h.w14 _)
theorem MAt.w15 (h : MAt B M m F D A) (f : Nat → Nat) : MAt B (mset M (m + 15) (.inl (3, 60, fun j => .int (nI (f j))))) m F D (fA A 15 f) :=
  h.st 15 (by decide) _ (by simp [mdC, fA]) (fun j hj hn => match j, hj, hn with
    | 0, _, hn => by first | rfl | exact absurd rfl hn
    | 1, _, hn => by first | rfl | exact absurd rfl hn
    | 2, _, hn => by first | rfl | exact absurd rfl hn
    | 3, _, hn => by first | rfl | exact absurd rfl hn
    | 4, _, hn => by first | rfl | exact absurd rfl hn
    | 5, _, hn => by first | rfl | exact absurd rfl hn
    | 6, _, hn => by first | rfl | exact absurd rfl hn
    | 7, _, hn => by first | rfl | exact absurd rfl hn
    | 8, _, hn => by first | rfl | exact absurd rfl hn
    | 9, _, hn => by first | rfl | exact absurd rfl hn
    | 10, _, hn => by first | rfl | exact absurd rfl hn
    | 11, _, hn => by first | rfl | exact absurd rfl hn
    | 12, _, hn => by first | rfl | exact absurd rfl hn
    | 13, _, hn => by first | rfl | exact absurd rfl hn
    | 14, _, hn => by first | rfl | exact absurd rfl hn
    | 15, _, hn => by first | rfl | exact absurd rfl hn
    | 16, _, hn => by first | rfl | exact absurd rfl hn
    | j + 17, hj, _ => absurd hj (by omega))
theorem MAt.k15 {f : Nat → Nat} (h : MAt B M m F D A) (kk : ∀ M, MAt B M m F D (fA A 15 f) → mW G y d pc L st M t u Q) : mW G y d pc L st (mset M (m + 15) (.inl (3, 60, fun j => .int (nI (f j))))) t u Q := kk _ (h.w15 f)
theorem MAt.g15 {k x : Nat} (h : MAt B M m F D A) (kk : ∀ M, MAt B M m F D (fA A 15 (fU (A 15) k x)) → mW G y d pc L st M t u Q) : mW G y d pc L st (mset M (m + 15) (.inl (3, 60, updV (fun j => .int (nI (A 15 j))) k (.int (nI x))))) t u Q := by
  rw [updV_n]; exact kk _ (h.w15 _)
theorem MAt.w16 (h : MAt B M m F D A) (f : Nat → Nat) : MAt B (mset M (m + 16) (.inl (0, 180, fun j => .int (pI (f j))))) m F D (fA A 16 f) :=
  h.st 16 (by decide) _ (by simp [mdC, fA]) (fun j hj hn => match j, hj, hn with
    | 0, _, hn => by first | rfl | exact absurd rfl hn
    | 1, _, hn => by first | rfl | exact absurd rfl hn
    | 2, _, hn => by first | rfl | exact absurd rfl hn
    | 3, _, hn => by first | rfl | exact absurd rfl hn
    | 4, _, hn => by first | rfl | exact absurd rfl hn
    | 5, _, hn => by first | rfl | exact absurd rfl hn
    | 6, _, hn => by first | rfl | exact absurd rfl hn
    | 7, _, hn => by first | rfl | exact absurd rfl hn
    | 8, _, hn => by first | rfl | exact absurd rfl hn
    | 9, _, hn => by first | rfl | exact absurd rfl hn
    | 10, _, hn => by first | rfl | exact absurd rfl hn
    | 11, _, hn => by first | rfl | exact absurd rfl hn
    | 12, _, hn => by first | rfl | exact absurd rfl hn
    | 13, _, hn => by first | rfl | exact absurd rfl hn
    | 14, _, hn => by first | rfl | exact absurd rfl hn
    | 15, _, hn => by first | rfl | exact absurd rfl hn
    | 16, _, hn => by first | rfl | exact absurd rfl hn
    | j + 17, hj, _ => absurd hj (by omega))
theorem MAt.k16 {f : Nat → Nat} (h : MAt B M m F D A) (kk : ∀ M, MAt B M m F D (fA A 16 f) → mW G y d pc L st M t u Q) : mW G y d pc L st (mset M (m + 16) (.inl (0, 180, fun j => .int (pI (f j))))) t u Q := kk _ (h.w16 f)
theorem MAt.g16 {k x : Nat} (h : MAt B M m F D A) (kk : ∀ M, MAt B M m F D (fA A 16 (fU (A 16) k x)) → mW G y d pc L st M t u Q) : mW G y d pc L st (mset M (m + 16) (.inl (0, 180, updV (fun j => .int (pI (A 16 j))) k (.int (pI x))))) t u Q := by
  rw [updV_p]; exact kk _ (h.w16 _)
theorem MAt.p3 {x : Nat} (h : MAt B M m F D A) (kk : ∀ M, MAt B M m (fU F 3 x) D A → mW G y d pc L st M t u Q) : mW G y d pc L st (mset M m (.inr (7, (mdF m F D).set 3 (.int (nI x))))) t u Q :=
  kk _ (h.st (F' := (fU F 3 x)) (D' := D) 0 (by decide) _ rfl (fun j hj hn => match j, hj, hn with
    | 0, _, hn => by first | rfl | exact absurd rfl hn
    | 1, _, hn => by first | rfl | exact absurd rfl hn
    | 2, _, hn => by first | rfl | exact absurd rfl hn
    | 3, _, hn => by first | rfl | exact absurd rfl hn
    | 4, _, hn => by first | rfl | exact absurd rfl hn
    | 5, _, hn => by first | rfl | exact absurd rfl hn
    | 6, _, hn => by first | rfl | exact absurd rfl hn
    | 7, _, hn => by first | rfl | exact absurd rfl hn
    | 8, _, hn => by first | rfl | exact absurd rfl hn
    | 9, _, hn => by first | rfl | exact absurd rfl hn
    | 10, _, hn => by first | rfl | exact absurd rfl hn
    | 11, _, hn => by first | rfl | exact absurd rfl hn
    | 12, _, hn => by first | rfl | exact absurd rfl hn
    | 13, _, hn => by first | rfl | exact absurd rfl hn
    | 14, _, hn => by first | rfl | exact absurd rfl hn
    | 15, _, hn => by first | rfl | exact absurd rfl hn
    | 16, _, hn => by first | rfl | exact absurd rfl hn
    | j + 17, hj, _ => absurd hj (by omega)))
theorem MAt.p5 {x : Nat} (h : MAt B M m F D A) (kk : ∀ M, MAt B M m (fU F 5 x) D A → mW G y d pc L st M t u Q) : mW G y d pc L st (mset M m (.inr (7, (mdF m F D).set 5 (.int (nI x))))) t u Q :=
  kk _ (h.st (F' := (fU F 5 x)) (D' := D) 0 (by decide) _ rfl (fun j hj hn => match j, hj, hn with
    | 0, _, hn => by first | rfl | exact absurd rfl hn
    | 1, _, hn => by first | rfl | exact absurd rfl hn
    | 2, _, hn => by first | rfl | exact absurd rfl hn
    | 3, _, hn => by first | rfl | exact absurd rfl hn
    | 4, _, hn => by first | rfl | exact absurd rfl hn
    | 5, _, hn => by first | rfl | exact absurd rfl hn
    | 6, _, hn => by first | rfl | exact absurd rfl hn
    | 7, _, hn => by first | rfl | exact absurd rfl hn
    | 8, _, hn => by first | rfl | exact absurd rfl hn
    | 9, _, hn => by first | rfl | exact absurd rfl hn
    | 10, _, hn => by first | rfl | exact absurd rfl hn
    | 11, _, hn => by first | rfl | exact absurd rfl hn
    | 12, _, hn => by first | rfl | exact absurd rfl hn
    | 13, _, hn => by first | rfl | exact absurd rfl hn
    | 14, _, hn => by first | rfl | exact absurd rfl hn
    | 15, _, hn => by first | rfl | exact absurd rfl hn
    | 16, _, hn => by first | rfl | exact absurd rfl hn
    | j + 17, hj, _ => absurd hj (by omega)))
theorem MAt.p6 {x : Nat} (h : MAt B M m F D A) (kk : ∀ M, MAt B M m (fU F 6 x) D A → mW G y d pc L st M t u Q) : mW G y d pc L st (mset M m (.inr (7, (mdF m F D).set 6 (.int (nI x))))) t u Q :=
  kk _ (h.st (F' := (fU F 6 x)) (D' := D) 0 (by decide) _ rfl (fun j hj hn => match j, hj, hn with
    | 0, _, hn => by first | rfl | exact absurd rfl hn
    | 1, _, hn => by first | rfl | exact absurd rfl hn
    | 2, _, hn => by first | rfl | exact absurd rfl hn
    | 3, _, hn => by first | rfl | exact absurd rfl hn
    | 4, _, hn => by first | rfl | exact absurd rfl hn
    | 5, _, hn => by first | rfl | exact absurd rfl hn
    | 6, _, hn => by first | rfl | exact absurd rfl hn
    | 7, _, hn => by first | rfl | exact absurd rfl hn
    | 8, _, hn => by first | rfl | exact absurd rfl hn
    | 9, _, hn => by first | rfl | exact absurd rfl hn
    | 10, _, hn => by first | rfl | exact absurd rfl hn
    | 11, _, hn => by first | rfl | exact absurd rfl hn
    | 12, _, hn => by first | rfl | exact absurd rfl hn
    | 13, _, hn => by first | rfl | exact absurd rfl hn
    | 14, _, hn => by first | rfl | exact absurd rfl hn
    | 15, _, hn => by first | rfl | exact absurd rfl hn
    | 16, _, hn => by first | rfl | exact absurd rfl hn
    | j + 17, hj, _ => absurd hj (by omega)))
theorem MAt.p7 {x : Nat} (h : MAt B M m F D A) (kk : ∀ M, MAt B M m (fU F 7 x) D A → mW G y d pc L st M t u Q) : mW G y d pc L st (mset M m (.inr (7, (mdF m F D).set 7 (.int (nI x))))) t u Q :=
  kk _ (h.st (F' := (fU F 7 x)) (D' := D) 0 (by decide) _ rfl (fun j hj hn => match j, hj, hn with
    | 0, _, hn => by first | rfl | exact absurd rfl hn
    | 1, _, hn => by first | rfl | exact absurd rfl hn
    | 2, _, hn => by first | rfl | exact absurd rfl hn
    | 3, _, hn => by first | rfl | exact absurd rfl hn
    | 4, _, hn => by first | rfl | exact absurd rfl hn
    | 5, _, hn => by first | rfl | exact absurd rfl hn
    | 6, _, hn => by first | rfl | exact absurd rfl hn
    | 7, _, hn => by first | rfl | exact absurd rfl hn
    | 8, _, hn => by first | rfl | exact absurd rfl hn
    | 9, _, hn => by first | rfl | exact absurd rfl hn
    | 10, _, hn => by first | rfl | exact absurd rfl hn
    | 11, _, hn => by first | rfl | exact absurd rfl hn
    | 12, _, hn => by first | rfl | exact absurd rfl hn
    | 13, _, hn => by first | rfl | exact absurd rfl hn
    | 14, _, hn => by first | rfl | exact absurd rfl hn
    | 15, _, hn => by first | rfl | exact absurd rfl hn
    | 16, _, hn => by first | rfl | exact absurd rfl hn
    | j + 17, hj, _ => absurd hj (by omega)))
theorem MAt.p8 {v : Int32} (h : MAt B M m F D A) (kk : ∀ M, MAt B M m F v A → mW G y d pc L st M t u Q) : mW G y d pc L st (mset M m (.inr (7, (mdF m F D).set 8 (.int v)))) t u Q :=
  kk _ (h.st (F' := F) (D' := v) 0 (by decide) _ rfl (fun j hj hn => match j, hj, hn with
    | 0, _, hn => by first | rfl | exact absurd rfl hn
    | 1, _, hn => by first | rfl | exact absurd rfl hn
    | 2, _, hn => by first | rfl | exact absurd rfl hn
    | 3, _, hn => by first | rfl | exact absurd rfl hn
    | 4, _, hn => by first | rfl | exact absurd rfl hn
    | 5, _, hn => by first | rfl | exact absurd rfl hn
    | 6, _, hn => by first | rfl | exact absurd rfl hn
    | 7, _, hn => by first | rfl | exact absurd rfl hn
    | 8, _, hn => by first | rfl | exact absurd rfl hn
    | 9, _, hn => by first | rfl | exact absurd rfl hn
    | 10, _, hn => by first | rfl | exact absurd rfl hn
    | 11, _, hn => by first | rfl | exact absurd rfl hn
    | 12, _, hn => by first | rfl | exact absurd rfl hn
    | 13, _, hn => by first | rfl | exact absurd rfl hn
    | 14, _, hn => by first | rfl | exact absurd rfl hn
    | 15, _, hn => by first | rfl | exact absurd rfl hn
    | 16, _, hn => by first | rfl | exact absurd rfl hn
    | j + 17, hj, _ => absurd hj (by omega)))
theorem MAt.p14 {x : Nat} (h : MAt B M m F D A) (kk : ∀ M, MAt B M m (fU F 14 x) D A → mW G y d pc L st M t u Q) : mW G y d pc L st (mset M m (.inr (7, (mdF m F D).set 14 (.int (nI x))))) t u Q :=
  kk _ (h.st (F' := (fU F 14 x)) (D' := D) 0 (by decide) _ rfl (fun j hj hn => match j, hj, hn with
    | 0, _, hn => by first | rfl | exact absurd rfl hn
    | 1, _, hn => by first | rfl | exact absurd rfl hn
    | 2, _, hn => by first | rfl | exact absurd rfl hn
    | 3, _, hn => by first | rfl | exact absurd rfl hn
    | 4, _, hn => by first | rfl | exact absurd rfl hn
    | 5, _, hn => by first | rfl | exact absurd rfl hn
    | 6, _, hn => by first | rfl | exact absurd rfl hn
    | 7, _, hn => by first | rfl | exact absurd rfl hn
    | 8, _, hn => by first | rfl | exact absurd rfl hn
    | 9, _, hn => by first | rfl | exact absurd rfl hn
    | 10, _, hn => by first | rfl | exact absurd rfl hn
    | 11, _, hn => by first | rfl | exact absurd rfl hn
    | 12, _, hn => by first | rfl | exact absurd rfl hn
    | 13, _, hn => by first | rfl | exact absurd rfl hn
    | 14, _, hn => by first | rfl | exact absurd rfl hn
    | 15, _, hn => by first | rfl | exact absurd rfl hn
    | 16, _, hn => by first | rfl | exact absurd rfl hn
    | j + 17, hj, _ => absurd hj (by omega)))
theorem MAt.p18 {x : Nat} (h : MAt B M m F D A) (kk : ∀ M, MAt B M m (fU F 18 x) D A → mW G y d pc L st M t u Q) : mW G y d pc L st (mset M m (.inr (7, (mdF m F D).set 18 (.int (nI x))))) t u Q :=
  kk _ (h.st (F' := (fU F 18 x)) (D' := D) 0 (by decide) _ rfl (fun j hj hn => match j, hj, hn with
    | 0, _, hn => by first | rfl | exact absurd rfl hn
    | 1, _, hn => by first | rfl | exact absurd rfl hn
    | 2, _, hn => by first | rfl | exact absurd rfl hn
    | 3, _, hn => by first | rfl | exact absurd rfl hn
    | 4, _, hn => by first | rfl | exact absurd rfl hn
    | 5, _, hn => by first | rfl | exact absurd rfl hn
    | 6, _, hn => by first | rfl | exact absurd rfl hn
    | 7, _, hn => by first | rfl | exact absurd rfl hn
    | 8, _, hn => by first | rfl | exact absurd rfl hn
    | 9, _, hn => by first | rfl | exact absurd rfl hn
    | 10, _, hn => by first | rfl | exact absurd rfl hn
    | 11, _, hn => by first | rfl | exact absurd rfl hn
    | 12, _, hn => by first | rfl | exact absurd rfl hn
    | 13, _, hn => by first | rfl | exact absurd rfl hn
    | 14, _, hn => by first | rfl | exact absurd rfl hn
    | 15, _, hn => by first | rfl | exact absurd rfl hn
    | 16, _, hn => by first | rfl | exact absurd rfl hn
    | j + 17, hj, _ => absurd hj (by omega)))
theorem MAt.p19 {x : Nat} (h : MAt B M m F D A) (kk : ∀ M, MAt B M m (fU F 19 x) D A → mW G y d pc L st M t u Q) : mW G y d pc L st (mset M m (.inr (7, (mdF m F D).set 19 (.int (nI x))))) t u Q :=
  kk _ (h.st (F' := (fU F 19 x)) (D' := D) 0 (by decide) _ rfl (fun j hj hn => match j, hj, hn with
    | 0, _, hn => by first | rfl | exact absurd rfl hn
    | 1, _, hn => by first | rfl | exact absurd rfl hn
    | 2, _, hn => by first | rfl | exact absurd rfl hn
    | 3, _, hn => by first | rfl | exact absurd rfl hn
    | 4, _, hn => by first | rfl | exact absurd rfl hn
    | 5, _, hn => by first | rfl | exact absurd rfl hn
    | 6, _, hn => by first | rfl | exact absurd rfl hn
    | 7, _, hn => by first | rfl | exact absurd rfl hn
    | 8, _, hn => by first | rfl | exact absurd rfl hn
    | 9, _, hn => by first | rfl | exact absurd rfl hn
    | 10, _, hn => by first | rfl | exact absurd rfl hn
    | 11, _, hn => by first | rfl | exact absurd rfl hn
    | 12, _, hn => by first | rfl | exact absurd rfl hn
    | 13, _, hn => by first | rfl | exact absurd rfl hn
    | 14, _, hn => by first | rfl | exact absurd rfl hn
    | 15, _, hn => by first | rfl | exact absurd rfl hn
    | 16, _, hn => by first | rfl | exact absurd rfl hn
    | j + 17, hj, _ => absurd hj (by omega)))
theorem MAt.p20 {x : Nat} (h : MAt B M m F D A) (kk : ∀ M, MAt B M m (fU F 20 x) D A → mW G y d pc L st M t u Q) : mW G y d pc L st (mset M m (.inr (7, (mdF m F D).set 20 (.int (pI x))))) t u Q :=
  kk _ (h.st (F' := (fU F 20 x)) (D' := D) 0 (by decide) _ rfl (fun j hj hn => match j, hj, hn with
    | 0, _, hn => by first | rfl | exact absurd rfl hn
    | 1, _, hn => by first | rfl | exact absurd rfl hn
    | 2, _, hn => by first | rfl | exact absurd rfl hn
    | 3, _, hn => by first | rfl | exact absurd rfl hn
    | 4, _, hn => by first | rfl | exact absurd rfl hn
    | 5, _, hn => by first | rfl | exact absurd rfl hn
    | 6, _, hn => by first | rfl | exact absurd rfl hn
    | 7, _, hn => by first | rfl | exact absurd rfl hn
    | 8, _, hn => by first | rfl | exact absurd rfl hn
    | 9, _, hn => by first | rfl | exact absurd rfl hn
    | 10, _, hn => by first | rfl | exact absurd rfl hn
    | 11, _, hn => by first | rfl | exact absurd rfl hn
    | 12, _, hn => by first | rfl | exact absurd rfl hn
    | 13, _, hn => by first | rfl | exact absurd rfl hn
    | 14, _, hn => by first | rfl | exact absurd rfl hn
    | 15, _, hn => by first | rfl | exact absurd rfl hn
    | 16, _, hn => by first | rfl | exact absurd rfl hn
    | j + 17, hj, _ => absurd hj (by omega)))
theorem MAt.p21 {x : Nat} (h : MAt B M m F D A) (kk : ∀ M, MAt B M m (fU F 21 x) D A → mW G y d pc L st M t u Q) : mW G y d pc L st (mset M m (.inr (7, (mdF m F D).set 21 (.int (pI x))))) t u Q :=
  kk _ (h.st (F' := (fU F 21 x)) (D' := D) 0 (by decide) _ rfl (fun j hj hn => match j, hj, hn with
    | 0, _, hn => by first | rfl | exact absurd rfl hn
    | 1, _, hn => by first | rfl | exact absurd rfl hn
    | 2, _, hn => by first | rfl | exact absurd rfl hn
    | 3, _, hn => by first | rfl | exact absurd rfl hn
    | 4, _, hn => by first | rfl | exact absurd rfl hn
    | 5, _, hn => by first | rfl | exact absurd rfl hn
    | 6, _, hn => by first | rfl | exact absurd rfl hn
    | 7, _, hn => by first | rfl | exact absurd rfl hn
    | 8, _, hn => by first | rfl | exact absurd rfl hn
    | 9, _, hn => by first | rfl | exact absurd rfl hn
    | 10, _, hn => by first | rfl | exact absurd rfl hn
    | 11, _, hn => by first | rfl | exact absurd rfl hn
    | 12, _, hn => by first | rfl | exact absurd rfl hn
    | 13, _, hn => by first | rfl | exact absurd rfl hn
    | 14, _, hn => by first | rfl | exact absurd rfl hn
    | 15, _, hn => by first | rfl | exact absurd rfl hn
    | 16, _, hn => by first | rfl | exact absurd rfl hn
    | j + 17, hj, _ => absurd hj (by omega)))
theorem MAt.p23 {x : Nat} (h : MAt B M m F D A) (kk : ∀ M, MAt B M m (fU F 23 x) D A → mW G y d pc L st M t u Q) : mW G y d pc L st (mset M m (.inr (7, (mdF m F D).set 23 (.int (nI x))))) t u Q :=
  kk _ (h.st (F' := (fU F 23 x)) (D' := D) 0 (by decide) _ rfl (fun j hj hn => match j, hj, hn with
    | 0, _, hn => by first | rfl | exact absurd rfl hn
    | 1, _, hn => by first | rfl | exact absurd rfl hn
    | 2, _, hn => by first | rfl | exact absurd rfl hn
    | 3, _, hn => by first | rfl | exact absurd rfl hn
    | 4, _, hn => by first | rfl | exact absurd rfl hn
    | 5, _, hn => by first | rfl | exact absurd rfl hn
    | 6, _, hn => by first | rfl | exact absurd rfl hn
    | 7, _, hn => by first | rfl | exact absurd rfl hn
    | 8, _, hn => by first | rfl | exact absurd rfl hn
    | 9, _, hn => by first | rfl | exact absurd rfl hn
    | 10, _, hn => by first | rfl | exact absurd rfl hn
    | 11, _, hn => by first | rfl | exact absurd rfl hn
    | 12, _, hn => by first | rfl | exact absurd rfl hn
    | 13, _, hn => by first | rfl | exact absurd rfl hn
    | 14, _, hn => by first | rfl | exact absurd rfl hn
    | 15, _, hn => by first | rfl | exact absurd rfl hn
    | 16, _, hn => by first | rfl | exact absurd rfl hn
    | j + 17, hj, _ => absurd hj (by omega)))
theorem MAt.p24 {x : Nat} (h : MAt B M m F D A) (kk : ∀ M, MAt B M m (fU F 24 x) D A → mW G y d pc L st M t u Q) : mW G y d pc L st (mset M m (.inr (7, (mdF m F D).set 24 (.int (nI x))))) t u Q :=
  kk _ (h.st (F' := (fU F 24 x)) (D' := D) 0 (by decide) _ rfl (fun j hj hn => match j, hj, hn with
    | 0, _, hn => by first | rfl | exact absurd rfl hn
    | 1, _, hn => by first | rfl | exact absurd rfl hn
    | 2, _, hn => by first | rfl | exact absurd rfl hn
    | 3, _, hn => by first | rfl | exact absurd rfl hn
    | 4, _, hn => by first | rfl | exact absurd rfl hn
    | 5, _, hn => by first | rfl | exact absurd rfl hn
    | 6, _, hn => by first | rfl | exact absurd rfl hn
    | 7, _, hn => by first | rfl | exact absurd rfl hn
    | 8, _, hn => by first | rfl | exact absurd rfl hn
    | 9, _, hn => by first | rfl | exact absurd rfl hn
    | 10, _, hn => by first | rfl | exact absurd rfl hn
    | 11, _, hn => by first | rfl | exact absurd rfl hn
    | 12, _, hn => by first | rfl | exact absurd rfl hn
    | 13, _, hn => by first | rfl | exact absurd rfl hn
    | 14, _, hn => by first | rfl | exact absurd rfl hn
    | 15, _, hn => by first | rfl | exact absurd rfl hn
    | 16, _, hn => by first | rfl | exact absurd rfl hn
    | j + 17, hj, _ => absurd hj (by omega)))
theorem MAt.p26 {x : Nat} (h : MAt B M m F D A) (kk : ∀ M, MAt B M m (fU F 26 x) D A → mW G y d pc L st M t u Q) : mW G y d pc L st (mset M m (.inr (7, (mdF m F D).set 26 (.int (nI x))))) t u Q :=
  kk _ (h.st (F' := (fU F 26 x)) (D' := D) 0 (by decide) _ rfl (fun j hj hn => match j, hj, hn with
    | 0, _, hn => by first | rfl | exact absurd rfl hn
    | 1, _, hn => by first | rfl | exact absurd rfl hn
    | 2, _, hn => by first | rfl | exact absurd rfl hn
    | 3, _, hn => by first | rfl | exact absurd rfl hn
    | 4, _, hn => by first | rfl | exact absurd rfl hn
    | 5, _, hn => by first | rfl | exact absurd rfl hn
    | 6, _, hn => by first | rfl | exact absurd rfl hn
    | 7, _, hn => by first | rfl | exact absurd rfl hn
    | 8, _, hn => by first | rfl | exact absurd rfl hn
    | 9, _, hn => by first | rfl | exact absurd rfl hn
    | 10, _, hn => by first | rfl | exact absurd rfl hn
    | 11, _, hn => by first | rfl | exact absurd rfl hn
    | 12, _, hn => by first | rfl | exact absurd rfl hn
    | 13, _, hn => by first | rfl | exact absurd rfl hn
    | 14, _, hn => by first | rfl | exact absurd rfl hn
    | 15, _, hn => by first | rfl | exact absurd rfl hn
    | 16, _, hn => by first | rfl | exact absurd rfl hn
    | j + 17, hj, _ => absurd hj (by omega)))
theorem MAt.p28 {x : Nat} (h : MAt B M m F D A) (kk : ∀ M, MAt B M m (fU F 28 x) D A → mW G y d pc L st M t u Q) : mW G y d pc L st (mset M m (.inr (7, (mdF m F D).set 28 (.int (nI x))))) t u Q :=
  kk _ (h.st (F' := (fU F 28 x)) (D' := D) 0 (by decide) _ rfl (fun j hj hn => match j, hj, hn with
    | 0, _, hn => by first | rfl | exact absurd rfl hn
    | 1, _, hn => by first | rfl | exact absurd rfl hn
    | 2, _, hn => by first | rfl | exact absurd rfl hn
    | 3, _, hn => by first | rfl | exact absurd rfl hn
    | 4, _, hn => by first | rfl | exact absurd rfl hn
    | 5, _, hn => by first | rfl | exact absurd rfl hn
    | 6, _, hn => by first | rfl | exact absurd rfl hn
    | 7, _, hn => by first | rfl | exact absurd rfl hn
    | 8, _, hn => by first | rfl | exact absurd rfl hn
    | 9, _, hn => by first | rfl | exact absurd rfl hn
    | 10, _, hn => by first | rfl | exact absurd rfl hn
    | 11, _, hn => by first | rfl | exact absurd rfl hn
    | 12, _, hn => by first | rfl | exact absurd rfl hn
    | 13, _, hn => by first | rfl | exact absurd rfl hn
    | 14, _, hn => by first | rfl | exact absurd rfl hn
    | 15, _, hn => by first | rfl | exact absurd rfl hn
    | 16, _, hn => by first | rfl | exact absurd rfl hn
    | j + 17, hj, _ => absurd hj (by omega)))
theorem MAt.p29 {x : Nat} (h : MAt B M m F D A) (kk : ∀ M, MAt B M m (fU F 29 x) D A → mW G y d pc L st M t u Q) : mW G y d pc L st (mset M m (.inr (7, (mdF m F D).set 29 (.int (pI x))))) t u Q :=
  kk _ (h.st (F' := (fU F 29 x)) (D' := D) 0 (by decide) _ rfl (fun j hj hn => match j, hj, hn with
    | 0, _, hn => by first | rfl | exact absurd rfl hn
    | 1, _, hn => by first | rfl | exact absurd rfl hn
    | 2, _, hn => by first | rfl | exact absurd rfl hn
    | 3, _, hn => by first | rfl | exact absurd rfl hn
    | 4, _, hn => by first | rfl | exact absurd rfl hn
    | 5, _, hn => by first | rfl | exact absurd rfl hn
    | 6, _, hn => by first | rfl | exact absurd rfl hn
    | 7, _, hn => by first | rfl | exact absurd rfl hn
    | 8, _, hn => by first | rfl | exact absurd rfl hn
    | 9, _, hn => by first | rfl | exact absurd rfl hn
    | 10, _, hn => by first | rfl | exact absurd rfl hn
    | 11, _, hn => by first | rfl | exact absurd rfl hn
    | 12, _, hn => by first | rfl | exact absurd rfl hn
    | 13, _, hn => by first | rfl | exact absurd rfl hn
    | 14, _, hn => by first | rfl | exact absurd rfl hn
    | 15, _, hn => by first | rfl | exact absurd rfl hn
    | 16, _, hn => by first | rfl | exact absurd rfl hn
    | j + 17, hj, _ => absurd hj (by omega)))
theorem va_cpy_map {f g : Nat → Nat} (k : Nat → Value) (sp dp n j : Nat) : va_cpy (fun j => k (f j)) (fun j => k (g j)) sp dp n j = k (va_cpy f g sp dp n j) := by
  unfold va_cpy; split <;> rfl
theorem r_mcopy {n0 n1 a0 a i sp dp n : Nat} {f g : Nat → Nat} (hM0 : M a0 = some (.inl (0, n0, fun j => .int (nI (f j))))) (hM1 : M a = some (.inl (0, n1, fun j => .int (nI (g j))))) (hw : Cond.methodLink (mYn y).cls i arraycopyName ∈ lw_all) (h4 : sp + n ≤ n0) (h5 : dp + n ≤ n1) (h6 : n0 < 2147483648) (h7 : n1 < 2147483648) (hge : mGb G ≤ a)
    (hr : (st.map fun v => v.category).sum ≤ 8) (hd : decode (mYc y) pc = .ok (.invokestatic i, 3)) (kk : mW G y d (pc + 3) L st (mset M a (.inl (0, n1, fun j => .int (nI (va_cpy f g sp dp n j))))) t u Q) : mW G y d pc L (.int (nI n) :: .int (nI dp) :: .ref a :: .int (nI sp) :: .ref a0 :: st) M t u Q :=
  r_acopy hM0 hM1 rfl rfl rfl hw h4 h5 h6 h7 hge (fun j _ => Or.inl ⟨rfl, fun b h => by cases h⟩) (fun j _ => va_cpy_map (fun x => .int (nI x)) sp dp n j) hr hd kk
/-! branches on places -/
theorem r_icmp_eq_pn {a b : Nat} {off : Int} {tgt : Nat} (hd : decode (mYc y) pc = .ok (.if_icmp .eq off, 3)) (ht : (pc : Int) + off = (tgt : Int)) (ha : a < 2147483648) (hb : b < 2147483648) (kt : a = b + 1 → mW G y d tgt L st M t u Q) (kf : a ≠ b + 1 → mW G y d (pc + 3) L st M t u Q) : mW G y d pc L (.int (nI b) :: .int (pI a) :: st) M t u Q :=
  r_icmp_eq hd ht (fun h => kt ((pI_n ha hb).mp h)) (fun h => kf fun q => h ((pI_n ha hb).mpr q))
theorem r_icmp_ne_pn {a b : Nat} {off : Int} {tgt : Nat} (hd : decode (mYc y) pc = .ok (.if_icmp .ne off, 3)) (ht : (pc : Int) + off = (tgt : Int)) (ha : a < 2147483648) (hb : b < 2147483648) (kt : a ≠ b + 1 → mW G y d tgt L st M t u Q) (kf : a = b + 1 → mW G y d (pc + 3) L st M t u Q) : mW G y d pc L (.int (nI b) :: .int (pI a) :: st) M t u Q :=
  r_icmp_ne hd ht (fun h => kt fun q => h ((pI_n ha hb).mpr q)) (fun h => kf ((pI_n ha hb).mp h))
theorem r_icmp_eq_pm {a : Nat} {off : Int} {tgt : Nat} (hd : decode (mYc y) pc = .ok (.if_icmp .eq off, 3)) (ht : (pc : Int) + off = (tgt : Int)) (ha : a < 2147483648) (kt : a = 0 → mW G y d tgt L st M t u Q) (kf : 0 < a → mW G y d (pc + 3) L st M t u Q) : mW G y d pc L (.int (-1) :: .int (pI a) :: st) M t u Q :=
  r_icmp_eq hd ht (fun h => kt ((pI_m ha).mp h)) (fun h => kf (Nat.pos_of_ne_zero fun q => h ((pI_m ha).mpr q)))
theorem r_icmp_ne_pm {a : Nat} {off : Int} {tgt : Nat} (hd : decode (mYc y) pc = .ok (.if_icmp .ne off, 3)) (ht : (pc : Int) + off = (tgt : Int)) (ha : a < 2147483648) (kt : 0 < a → mW G y d tgt L st M t u Q) (kf : a = 0 → mW G y d (pc + 3) L st M t u Q) : mW G y d pc L (.int (-1) :: .int (pI a) :: st) M t u Q :=
  r_icmp_ne hd ht (fun h => kt (Nat.pos_of_ne_zero fun q => h ((pI_m ha).mpr q))) (fun h => kf ((pI_m ha).mp h))
theorem r_if_lt_p {a : Nat} {off : Int} {tgt : Nat} (hd : decode (mYc y) pc = .ok (.ifCond .lt off, 3)) (ht : (pc : Int) + off = (tgt : Int)) (ha : a < 2147483648) (kt : a = 0 → mW G y d tgt L st M t u Q) (kf : 0 < a → mW G y d (pc + 3) L st M t u Q) : mW G y d pc L (.int (pI a) :: st) M t u Q :=
  r_if_lt hd ht (fun h => kt ((pI_lt ha).mp h)) (fun h => kf (Nat.pos_of_ne_zero fun q => h ((pI_lt ha).mpr q)))
theorem r_if_ge_p {a : Nat} {off : Int} {tgt : Nat} (hd : decode (mYc y) pc = .ok (.ifCond .ge off, 3)) (ht : (pc : Int) + off = (tgt : Int)) (ha : a < 2147483648) (kt : 0 < a → mW G y d tgt L st M t u Q) (kf : a = 0 → mW G y d (pc + 3) L st M t u Q) : mW G y d pc L (.int (pI a) :: st) M t u Q :=
  r_if_ge hd ht (fun h => kt ((pI_ge ha).mp h)) (fun h => kf (Nat.eq_zero_of_not_pos fun q => h ((pI_ge ha).mpr q)))
end MODEL
