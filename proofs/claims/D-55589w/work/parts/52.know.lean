/-! ===== what is known at the start of statics and String constants (printed by gen_know.py) ===== -/
/-- a part of a conjunction, by its place -/
def nwAt : List Bool → Cond → Cond
  | true :: p, .and a _ => nwAt p a
  | false :: p, .and _ b => nwAt p b
  | _, c => c
theorem nwAt_ok {A : Array Value} {U : State} : ∀ (p : List Bool) (c : Cond), c.before A U = true → (nwAt p c).before A U = true
  | [], c, h => by cases c <;> exact h
  | true :: p, c, h => by
    cases c with
    | and a b => rw [Cond.before_and, Bool.and_eq_true] at h; exact nwAt_ok p a h.1
    | _ => exact h
  | false :: p, c, h => by
    cases c with
    | and a b => rw [Cond.before_and, Bool.and_eq_true] at h; exact nwAt_ok p b h.2
    | _ => exact h
theorem nw {G : mG} (hG : mKn G) (p : List Bool) {w : Cond} (h : nwAt p narrow_1 = w) : w.before (mGv G) (mGs G) = true := by
  have h5 := hG.2.2.2.2
  rw [Cond.before_and, Bool.and_eq_true] at h5
  rw [← h]; exact nwAt_ok p _ h5.2
section KNOW
variable {G : mG}
theorem kCompact (hG : mKn G) : mStat G "java/lang/String" "COMPACT_STRINGS" "Z" (.int (1)) := va_Zof (hG.1 _ q354) (hG.1 _ (lw_all_tbl q86)) (va_eqi (nw hG [true, true, true, true, true, true, true, true, false, false] rfl)) (fun _ h => Nat.not_le.mpr h)
theorem kHi (hG : mKn G) : mStat G "java/lang/StringUTF16" "HI_BYTE_SHIFT" "I" (.int (0)) := va_Zof (hG.1 _ q794) (hG.1 _ (lw_all_tbl q87)) (va_eqi (nw hG [true, true, true, true, true, true, false, true, false, true] rfl)) (fun _ h => Nat.not_le.mpr h)
theorem kLo (hG : mKn G) : mStat G "java/lang/StringUTF16" "LO_BYTE_SHIFT" "I" (.int (8)) := va_Zof (hG.1 _ q796) (hG.1 _ (lw_all_tbl q87)) (va_eqi (nw hG [true, true, true, true, true, true, false, true, false, false] rfl)) (fun _ h => Nat.not_le.mpr h)
theorem kAsr (hG : mKn G) : mStat G "java/lang/StringUTF16" "$assertionsDisabled" "Z" (.int (1)) := va_Zof (hG.1 _ q792) (hG.1 _ (lw_all_tbl q87)) (va_eqi (nw hG [true, true, true, true, true, true, false, true, true] rfl)) (fun _ h => Nat.not_le.mpr h)
theorem kNegz (hG : mKn G) : mStat G "java/lang/Math" "negativeZeroFloatBits" "J" (.long (-2147483648)) := va_Zof (hG.1 _ q1512) (hG.1 _ (lw_all_tbl q94)) (va_eql (nw hG [true, false, true, true, true, false, true, false, true] rfl)) (fun _ h => Nat.not_le.mpr h)
theorem kSio (hG : mKn G) : ∃ v, mStat G "jdk/internal/util/Preconditions" "SIOOBE_FORMATTER" "Ljava/util/function/BiFunction;" v ∧ (v = .null ∨ ∃ a, v = .ref a) := by
  have h : (Cond.isRef (.static "jdk/internal/util/Preconditions" "SIOOBE_FORMATTER" "Ljava/util/function/BiFunction;")).before (mGv G) (mGs G) = true := nw hG [true, true, true, true, true, true, true, false, false, false] rfl
  obtain ⟨v, h1, h2⟩ : ∃ v, (Term.static "jdk/internal/util/Preconditions" "SIOOBE_FORMATTER" "Ljava/util/function/BiFunction;").eval (mGv G) (mGs G) none [] (mGs G) = some v ∧ (v = .null ∨ ∃ a, v = .ref a) := by
    cases hv : (Term.static "jdk/internal/util/Preconditions" "SIOOBE_FORMATTER" "Ljava/util/function/BiFunction;").eval (mGv G) (mGs G) none [] (mGs G) with
    | none => simp [Cond.before, Cond.holds, Cond.value, hv] at h
    | some v =>
      refine ⟨v, rfl, ?_⟩
      cases v with
      | null => exact Or.inl rfl
      | ref a => exact Or.inr ⟨a, rfl⟩
      | _ => simp [Cond.before, Cond.holds, Cond.value, hv] at h
  exact ⟨v, va_Zof (hG.1 _ q784) (hG.1 _ (lw_all_tbl q112)) h1 (fun _ h => Nat.not_le.mpr h), h2⟩
end KNOW
