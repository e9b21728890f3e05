/-! ===== String constants and static tables that stood at the start ===== -/
def mFree (G : mG) : Nat → Prop := fun q => mGb G ≤ q
/-- a String constant at a, its bytes at b -/
def mLit (G : mG) (byt : List Int32) (a b : Nat) : Prop := vk_S 1 [byt.length] [byt] (fun _ => a) (fun _ => b) (mFree G) (mGs G) (mGs G).heap
/-- a row of bytes -/
def mTab (G : mG) (b n : Nat) (f : Nat → Value) : Prop := va_T .byte b n f (mFree G) (mGs G) (mGs G).heap
section OLD
variable {G : mG} {y : mY} {d pc : Nat} {L : List (Option Value)} {st : List Value} {M : mM} {t u : Nat} {Q : mQt} {byt : List Int32} {a b : Nat} {z : mY} {As rest : List Value} {idx n : Nat}
theorem mLit.tab (h : mLit G byt a b) : mTab G b byt.length (fun j => .int (byt.getD j 0)) := (h.1 0 Nat.one_pos).2.2.2
theorem mS_of {p : Program} {e : Env} {R : Room} {s : State} {m : MethodId} {args : Array Value} {below : List Frame} {meth : Method} {c : Code} {H : Heap} {locs : List Loc} (C : mCtx G y d p e R s m args below meth c) (hR : mRep G M t u H) (hl : ∀ q ∈ locs, mGb G ≤ q.base) (hg : s.heap.size ≤ H.size) : va_S (mFree G) s.heap H locs :=
  ⟨hg, fun q _ hA => by rw [C.old q (Nat.lt_of_not_le hA)]; exact hR.2.2.2.2.2.1 q (Nat.lt_of_not_le hA), hl⟩
theorem mLit.at {p : Program} {e : Env} {R : Room} {s : State} {m : MethodId} {args : Array Value} {below : List Frame} {meth : Method} {c : Code} (h : mLit G byt a b) (C : mCtx G y d p e R s m args below meth c) : vk_S 1 [byt.length] [byt] (fun _ => a) (fun _ => b) (mFree G) s s.heap :=
  (vk_S.moved C.warm.alike h).kept (fun q _ hA => C.old q (Nat.lt_of_not_le hA))
theorem mTab.at {p : Program} {e : Env} {R : Room} {s : State} {m : MethodId} {args : Array Value} {below : List Frame} {meth : Method} {c : Code} {f : Nat → Value} (h : mTab G b n f) (C : mCtx G y d p e R s m args below meth c) : va_T .byte b n f (mFree G) s s.heap :=
  (va_T.moved C.warm.alike h).kept (fun q _ hA => C.old q (Nat.lt_of_not_le hA))
theorem r_getCoder {i : Nat} (h : mLit G byt a b) (hw : Cond.fieldLink (mYn y).cls i "java/lang/String" "coder" "B" ∈ lw_all) (hd : decode (mYc y) pc = .ok (.getfield i, 3)) (k : mW G y d (pc + 3) L (.int 0 :: st) M t u Q) : mW G y d pc L (.ref a :: st) M t u Q := by
  intro p e R s m args below meth c C H locs ls cells slots hR hl hL
  refine mGrown (fun hg _ => ?_)
  exact vk_getf C.hx C.hb ((h.at C).1 0 Nat.one_pos).2.1 (mS_of C hR hl hg) C.own (C.ts hw) (fun _ h => h) hd (k p e R s m args below meth c C H locs ls cells slots hR hl hL)
theorem r_getValue {i : Nat} (h : mLit G byt a b) (hw : Cond.fieldLink (mYn y).cls i "java/lang/String" "value" "[B" ∈ lw_all) (hd : decode (mYc y) pc = .ok (.getfield i, 3)) (k : mW G y d (pc + 3) L (.ref b :: st) M t u Q) : mW G y d pc L (.ref a :: st) M t u Q := by
  intro p e R s m args below meth c C H locs ls cells slots hR hl hL
  refine mGrown (fun hg _ => ?_)
  exact vk_getf C.hx C.hb ((h.at C).1 0 Nat.one_pos).2.2.1 (mS_of C hR hl hg) C.own (C.ts hw) (fun _ h => h) hd (k p e R s m args below meth c C H locs ls cells slots hR hl hL)
theorem r_tabB {f : Nat → Value} {i : Nat} (h : mTab G b n f) (hi : i < n) (hn : n < 2147483648) (hd : decode (mYc y) pc = .ok (.baload, 1)) (k : mW G y d (pc + 1) L (f i :: st) M t u Q) : mW G y d pc L (.int (nI i) :: .ref b :: st) M t u Q := by
  intro p e R s m args below meth c C H locs ls cells slots hR hl hL
  refine mGrown (fun hg _ => ?_)
  exact va_tb C.hx C.hb (h.at C) (mS_of C hR hl hg) (vp_in_n hi hn) (by rw [nI_cl (by omega)]) hd (k p e R s m args below meth c C H locs ls cells slots hR hl hL)
theorem r_tabN {f : Nat → Value} (h : mTab G b n f) (hd : decode (mYc y) pc = .ok (.arraylength, 1)) (k : mW G y d (pc + 1) L (.int (nI n) :: st) M t u Q) : mW G y d pc L (.ref b :: st) M t u Q := by
  intro p e R s m args below meth c C H locs ls cells slots hR hl hL
  refine mGrown (fun hg _ => ?_)
  exact va_tlen C.hx C.hb (h.at C) (mS_of C hR hl hg) rfl hd (k p e R s m args below meth c C H locs ls cells slots hR hl hL)
/-- a call on a String constant -/
theorem r_callLit (hs : mSV (mYn y).cls idx z 15 n) (hd : decode (mYc y) pc = .ok (.invokevirtual idx, 3)) (h : mLit G byt a b) (hst : st = As.reverse ++ .ref a :: rest) (hn : As.length = n) (hr : (rest.map fun v => v.category).sum ≤ 8) (k : mMet G d z (.ref a :: As) M t u (mK G y (d + 1) pc (pc + 3) L rest Q)) : mW G y (d + 1) pc L st M t u Q := by
  subst hst
  intro p e R s m args below meth c C H locs ls cells slots hR hl hL
  refine mGrown fun hg1 hg2 => mTight hR.1 hR.2.1 ?_
  intro T hT X
  obtain ⟨hz, hlink, hinst, hsel, T0, N0, hcl⟩ := hs
  obtain ⟨cell, q1, q2, q3⟩ := vk_recv (h.at C) Nat.one_pos (mS_of C hR hl hg1)
  have ec : (mYn z).cls = "java/lang/String" := by have h15 : mCl[15]? = some (RJ4, TJ4, 4) := rfl; exact (congrArg Prod.fst (Option.some.inj (h15.symm.trans hcl))).symm
  have q3 : s.vm.findClass (mYn z).cls = some cell.cls := by rw [ec]; exact q3
  have hK := m_bk C hz k
  have hcode := C.ts hz.2.1
  have hdg : decode c.code (F0 m pc ls (As.reverse ++ .ref a :: rest)).pc = .ok (.invokevirtual idx, 3) := by rw [C.hb]; exact hd
  by_cases he : (mYh z).isEmpty = true
  · rw [mCd_code he] at hcode
    rcases hlink with h | ⟨-, host, h⟩
    · exact m_after C hl hL (vx_callV X C.hx C.own (C.ts h) (C.ts hinst) (C.ts hsel) hcode hz.2.2.1 hK (by rw [hT]; exact q1) q2 q3 (g := F0 m pc ls (As.reverse ++ .ref a :: rest)) rfl (by rw [C.ml]; exact hL.sz) (hz.len hn) rfl (lv_room hr) hdg (m_pre C hT hR hg1 hg2))
    · exact m_after C hl hL (vx_callVN X C.hx C.own (C.methN h) (C.ts hinst) (C.ts hsel) hcode hz.2.2.1 hK (by rw [hT]; exact q1) q2 q3 (g := F0 m pc ls (As.reverse ++ .ref a :: rest)) rfl (by rw [C.ml]; exact hL.sz) (hz.len hn) rfl (lv_room hr) hdg (m_pre C hT hR hg1 hg2))
  · rw [mCd_codeWith he] at hcode
    rcases hlink with h | ⟨h, -⟩
    · exact m_after C hl hL (vx_callVX X C.hx C.own (C.ts h) (C.ts hinst) (C.ts hsel) hcode hz.2.2.1 hK (by rw [hT]; exact q1) q2 q3 (g := F0 m pc ls (As.reverse ++ .ref a :: rest)) rfl (by rw [C.ml]; exact hL.sz) (hz.len hn) rfl (lv_room hr) hdg (m_pre C hT hR hg1 hg2))
    · exact absurd h he
end OLD
