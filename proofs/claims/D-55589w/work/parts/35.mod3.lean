/-! ===== the model: the calls that change it ===== -/
/-- the model's rows but s, before and thrown -/
def MP (F : Nat → Nat) (A : Nat → Nat → Nat) (X : XT) : Prop := xOk X ∧ F 5 = (xH X).length ∧ (∀ (i : Nat) (w : WT), (xH X)[i]? = some w → mR w (fun j => A 4 (109 * i + j))) ∧
  (match xS X with | none => F 3 = 0 | some w => F 3 = 1 ∧ mR w (A 3)) ∧ F 28 = (xT X).length ∧ (∀ i c, (xT X)[i]? = some c → A 15 i = c) ∧ F 26 = (xL X).length ∧ (∀ i c, (xL X)[i]? = some c → A 14 i = c) ∧ F 29 = xE X ∧ F 7 = xR X
theorem MX_iff {B M : mM} {m : Nat} {X : XT} {th : Nat} : MX B M m X th ↔ ∃ F A, MAt B M m F (xD X) A ∧ MP F A X ∧ mR (xW X) (A 1) ∧ F 6 = th := by
  constructor
  · rintro ⟨F, A, h1, h2, h3, h4, h5, h6, h7, h8, h9, h10, h11, h12, h13⟩
    exact ⟨F, A, h1, ⟨h2, h4, h5, h6, h7, h8, h9, h10, h11, h12⟩, h3, h13⟩
  · rintro ⟨F, A, h1, ⟨h2, h4, h5, h6, h7, h8, h9, h10, h11, h12⟩, h3, h13⟩
    exact ⟨F, A, h1, h2, h3, h4, h5, h6, h7, h8, h9, h10, h11, h12, h13⟩
theorem mR_congr {W : WT} {S S' : Nat → Nat} (hw : wOk W) (h : mR W S) (e : ∀ j, j < 109 → S' j = S j) : mR W S' := by
  obtain ⟨hm, hn, hcg, hg, hc, hcl⟩ := hw
  obtain ⟨e0, e1, e2, e3, e4, e5⟩ := h
  refine ⟨?_, ?_, ?_, fun c h => ⟨?_, ?_, fun p hp => ?_⟩, fun g h => ⟨?_, ?_⟩, fun k h => ⟨?_, ?_, ?_⟩⟩
  · rw [e _ (by decide)]; exact e0
  · rw [e _ (by decide)]; exact e1
  · rw [e _ (by decide)]; exact e2
  · rw [e _ (by omega)]; exact (e3 c h).1
  · rw [e _ (by omega)]; exact (e3 c h).2.1
  · have := (hc c h).2.1
    rw [e _ (by omega)]; exact (e3 c h).2.2 p hp
  · rw [e _ (by omega)]; exact (e4 g h).1
  · rw [e _ (by omega)]; exact (e4 g h).2
  · rw [e _ (by omega)]; exact (e5 k h).1
  · rw [e _ (by omega)]; exact (e5 k h).2.1
  · rw [e _ (by omega)]; exact (e5 k h).2.2
/-! ===== the parts of a changed will ===== -/
theorem wm_wGoods (W : WT) (m : Nat) (k w : Nat → Nat) : wm (wGoods W m k w) = m := rfl
theorem wk_wGoods (W : WT) (m : Nat) (k w : Nat → Nat) : wk (wGoods W m k w) = k := rfl
theorem ww_wGoods (W : WT) (m : Nat) (k w : Nat → Nat) : ww (wGoods W m k w) = w := rfl
theorem wcm_wGoods (W : WT) (m : Nat) (k w : Nat → Nat) : wcm (wGoods W m k w) = wcm W := rfl
theorem wch_wGoods (W : WT) (m : Nat) (k w : Nat → Nat) : wch (wGoods W m k w) = wch W := rfl
theorem whu_wGoods (W : WT) (m : Nat) (k w : Nat → Nat) : whu (wGoods W m k w) = whu W := rfl
theorem wn_wGoods (W : WT) (m : Nat) (k w : Nat → Nat) : wn (wGoods W m k w) = wn W := rfl
theorem wso_wGoods (W : WT) (m : Nat) (k w : Nat → Nat) : wso (wGoods W m k w) = wso W := rfl
theorem won_wGoods (W : WT) (m : Nat) (k w : Nat → Nat) : won (wGoods W m k w) = won W := rfl
theorem wot_wGoods (W : WT) (m : Nat) (k w : Nat → Nat) : wot (wGoods W m k w) = wot W := rfl
theorem wcg_wGoods (W : WT) (m : Nat) (k w : Nat → Nat) : wcg (wGoods W m k w) = wcg W := rfl
theorem wm_wChest (W : WT) (c : Nat → Nat) (h : Nat → Nat → Nat) : wm (wChest W c h) = wm W := rfl
theorem wk_wChest (W : WT) (c : Nat → Nat) (h : Nat → Nat → Nat) : wk (wChest W c h) = wk W := rfl
theorem ww_wChest (W : WT) (c : Nat → Nat) (h : Nat → Nat → Nat) : ww (wChest W c h) = ww W := rfl
theorem wcm_wChest (W : WT) (c : Nat → Nat) (h : Nat → Nat → Nat) : wcm (wChest W c h) = c := rfl
theorem wch_wChest (W : WT) (c : Nat → Nat) (h : Nat → Nat → Nat) : wch (wChest W c h) = h := rfl
theorem whu_wChest (W : WT) (c : Nat → Nat) (h : Nat → Nat → Nat) : whu (wChest W c h) = whu W := rfl
theorem wn_wChest (W : WT) (c : Nat → Nat) (h : Nat → Nat → Nat) : wn (wChest W c h) = wn W := rfl
theorem wso_wChest (W : WT) (c : Nat → Nat) (h : Nat → Nat → Nat) : wso (wChest W c h) = wso W := rfl
theorem won_wChest (W : WT) (c : Nat → Nat) (h : Nat → Nat → Nat) : won (wChest W c h) = won W := rfl
theorem wot_wChest (W : WT) (c : Nat → Nat) (h : Nat → Nat → Nat) : wot (wChest W c h) = wot W := rfl
theorem wcg_wChest (W : WT) (c : Nat → Nat) (h : Nat → Nat → Nat) : wcg (wChest W c h) = wcg W := rfl
theorem wm_wRate (W : WT) (h : Nat → Nat) : wm (wRate W h) = wm W := rfl
theorem wk_wRate (W : WT) (h : Nat → Nat) : wk (wRate W h) = wk W := rfl
theorem ww_wRate (W : WT) (h : Nat → Nat) : ww (wRate W h) = ww W := rfl
theorem wcm_wRate (W : WT) (h : Nat → Nat) : wcm (wRate W h) = wcm W := rfl
theorem wch_wRate (W : WT) (h : Nat → Nat) : wch (wRate W h) = wch W := rfl
theorem whu_wRate (W : WT) (h : Nat → Nat) : whu (wRate W h) = h := rfl
theorem wn_wRate (W : WT) (h : Nat → Nat) : wn (wRate W h) = wn W := rfl
theorem wso_wRate (W : WT) (h : Nat → Nat) : wso (wRate W h) = wso W := rfl
theorem won_wRate (W : WT) (h : Nat → Nat) : won (wRate W h) = won W := rfl
theorem wot_wRate (W : WT) (h : Nat → Nat) : wot (wRate W h) = wot W := rfl
theorem wcg_wRate (W : WT) (h : Nat → Nat) : wcg (wRate W h) = wcg W := rfl
theorem wm_wCl (W : WT) (n : Nat) (s o t : Nat → Nat) : wm (wCl W n s o t) = wm W := rfl
theorem wk_wCl (W : WT) (n : Nat) (s o t : Nat → Nat) : wk (wCl W n s o t) = wk W := rfl
theorem ww_wCl (W : WT) (n : Nat) (s o t : Nat → Nat) : ww (wCl W n s o t) = ww W := rfl
theorem wcm_wCl (W : WT) (n : Nat) (s o t : Nat → Nat) : wcm (wCl W n s o t) = wcm W := rfl
theorem wch_wCl (W : WT) (n : Nat) (s o t : Nat → Nat) : wch (wCl W n s o t) = wch W := rfl
theorem whu_wCl (W : WT) (n : Nat) (s o t : Nat → Nat) : whu (wCl W n s o t) = whu W := rfl
theorem wn_wCl (W : WT) (n : Nat) (s o t : Nat → Nat) : wn (wCl W n s o t) = n := rfl
theorem wso_wCl (W : WT) (n : Nat) (s o t : Nat → Nat) : wso (wCl W n s o t) = s := rfl
theorem won_wCl (W : WT) (n : Nat) (s o t : Nat → Nat) : won (wCl W n s o t) = o := rfl
theorem wot_wCl (W : WT) (n : Nat) (s o t : Nat → Nat) : wot (wCl W n s o t) = t := rfl
theorem wcg_wCl (W : WT) (n : Nat) (s o t : Nat → Nat) : wcg (wCl W n s o t) = wcg W := rfl
theorem wm_wChg (W : WT)  : wm (wChg W) = wm W := rfl
theorem wk_wChg (W : WT)  : wk (wChg W) = wk W := rfl
theorem ww_wChg (W : WT)  : ww (wChg W) = ww W := rfl
theorem wcm_wChg (W : WT)  : wcm (wChg W) = wcm W := rfl
theorem wch_wChg (W : WT)  : wch (wChg W) = wch W := rfl
theorem whu_wChg (W : WT)  : whu (wChg W) = whu W := rfl
theorem wn_wChg (W : WT)  : wn (wChg W) = wn W := rfl
theorem wso_wChg (W : WT)  : wso (wChg W) = wso W := rfl
theorem won_wChg (W : WT)  : won (wChg W) = won W := rfl
theorem wot_wChg (W : WT)  : wot (wChg W) = wot W := rfl
theorem wcg_wChg (W : WT)  : wcg (wChg W) = wcg W + 1 := rfl
section MOD3
variable {G : mG} {d : Nat} {B M : mM} {m t u th : Nat} {X : XT} {F : Nat → Nat} {D : Int32} {A : Nat → Nat → Nat} {Q : mQt}
theorem MP.cg {F' : Nat → Nat} {A' : Nat → Nat → Nat} (h : MP F A X) (h3 : F' 3 = F 3) (h5 : F' 5 = F 5) (h7 : F' 7 = F 7) (h26 : F' 26 = F 26) (h28 : F' 28 = F 28) (h29 : F' 29 = F 29)
    (a3 : A' 3 = A 3) (a4 : A' 4 = A 4) (a14 : A' 14 = A 14) (a15 : A' 15 = A 15) : MP F' A' X := by
  unfold MP
  rw [h3, h5, h7, h26, h28, h29, a3, a4, a14, a15]
  exact h
theorem MP.f6 (h : MP F A X) (k : Nat) : MP (fU F 6 k) A X := h.cg rfl rfl rfl rfl rfl rfl rfl rfl rfl rfl
theorem MP.a1 (h : MP F A X) (f : Nat → Nat) : MP F (fA A 1 f) X := h.cg rfl rfl rfl rfl rfl rfl rfl rfl rfl rfl
theorem MP.a2 (h : MP F A X) (f : Nat → Nat) : MP F (fA A 2 f) X := h.cg rfl rfl rfl rfl rfl rfl rfl rfl rfl rfl
theorem MP.ref (h : MP F A X) (k : Nat) {r : Nat} (hr : r ≤ 7) (v : Int32) : MP (fU (fU F 6 k) 7 r) A (xRef X r v) := by
  obtain ⟨⟨o1, o2, o3, o4, o5, o6, o7, o8, o9, o10⟩, h2, h3, h4, h5, h6, h7, h8, h9, h10⟩ := h
  exact ⟨⟨o1, o2, o3, o4, o5, o6, o7, o8, o9, hr⟩, h2, h3, h4, h5, h6, h7, h8, h9, rfl⟩
theorem m_keepX (h : MX B M m X th) (hb : mGb G ≤ m) (hq : ∀ M F A, MAt B M m F (xD X) A → MP F A X → mR (xW X) (A 1) → mR (xW X) (A 2) → F 6 = 0 → Q (.inl none) M t u) : mMet G d zX8_keep [.ref m] M t u Q := by
  obtain ⟨F, A, h1, hP, hR, h6⟩ := MX_iff.mp h
  refine m_keep h1 hb (fun M hM => hq _ _ _ hM ((hP.f6 0).a2 _) hR (mR_congr hP.1.1 hR ?_) rfl)
  intro j hj
  have e1 : 0 ≤ j ∧ j < 0 + 109 := by omega
  simp [fA, va_cpy, hj]
theorem m_endsF (h : MAt B M m F (xD X) A) (hP : MP F A X) (hR : mR (xW X) (A 2)) (hb : mGb G ≤ m) (v : Int32) (k : Nat) (h6e : F 6 = k) (h6 : 0 < k) (h6b : k < 10) (hq : ∀ M, MX B M m X k → Q (.inl (some (.int 0))) M t u) : mMet G d zX8_ends [.ref m, .int v] M t u Q := by
  subst h6e
  refine m_endsX h hb v h6 h6b (fun M hM => hq _ (MX_iff.mpr ⟨_, _, hM, hP.a1 _, mR_congr hP.1.1 hR ?_, rfl⟩))
  intro j hj
  simp [fA, va_cpy, hj]
theorem m_endsD {W' : WT} (h : MAt B M m F (xD X) A) (hP : MP F A X) (hR2 : mR (xW X) (A 2)) (hR : mR W' (A 1)) (hW : wOk (wChg W')) (hb : mGb G ≤ m) (v : Int32) (h6 : F 6 = 0) (hq : ∀ M, MX B M m (xDo X W') 0 → Q (.inl (some (.int v))) M t u) : mMet G d zX8_ends [.ref m, .int v] M t u Q := by
  obtain ⟨⟨o1, o2, o3, o4, o5, o6, o7, o8, o9, o10⟩, p2, p3, p4, p5, p6, p7, p8, p9, p10⟩ := hP
  have hcg : wcg W' + 1 ≤ 1000 := hW.2.2.1
  have e2 : A 1 2 = wcg W' := hR.2.2.1
  refine m_ends h hb v h6 (by omega) (by omega) (fun M F' A' hM f5 ff a1 aa q1 q2 => hq _ (MX_iff.mpr ⟨F', A', hM, ⟨⟨hW, ?_, ?_, o4, o5, o6, o7, o8, o9, o10⟩, ?_, ?_, ?_, ?_, ?_, ?_, ?_, ?_, ?_⟩, ?_, ?_⟩))
  · show (xPush _ _).length ≤ 8
    unfold xPush; split <;> simp <;> omega
  · intro w hw
    have hw2 : w ∈ xPush (xH X) (xW X) := hw
    unfold xPush at hw2
    rcases List.mem_append.mp hw2 with h1 | h1
    · split at h1
      · exact o3 w (List.mem_of_mem_drop h1)
      · exact o3 w h1
    · rw [List.mem_singleton.mp h1]; exact o1
  · rw [f5]
    show _ = (xPush _ _).length
    unfold xPush
    rw [p2]
    split <;> simp <;> omega
  · intro i w hw
    have hw2 : (xPush (xH X) (xW X))[i]? = some w := hw
    have hwk : wOk w := by
      have hm := List.mem_of_getElem? hw2
      unfold xPush at hm
      rcases List.mem_append.mp hm with h1 | h1
      · split at h1
        · exact o3 w (List.mem_of_mem_drop h1)
        · exact o3 w h1
      · rw [List.mem_singleton.mp h1]; exact o1
    have hl : F' 5 = (xPush (xH X) (xW X)).length := by
      rw [f5]
      unfold xPush
      rw [p2]
      split <;> simp <;> omega
    have hil : i < F' 5 := by
      rw [hl]
      exact (List.getElem?_eq_some_iff.mp hw2).1
    have hll : F' 5 = (if (xH X).length = 8 then (xH X).drop 1 else xH X).length + 1 := by rw [hl]; unfold xPush; simp
    rcases Nat.lt_or_ge (i + 1) (F' 5) with hi | hi
    · have e : (xH X)[if F 5 = 8 then i + 1 else i]? = some w := by
        unfold xPush at hw2
        rw [List.getElem?_append_left (by omega)] at hw2
        rw [p2]
        split at hw2
        · rename_i h8
          rw [if_pos h8]
          rw [List.getElem?_drop, Nat.add_comm] at hw2
          exact hw2
        · rename_i h8
          rw [if_neg h8]; exact hw2
      exact mR_congr hwk (p3 _ _ e) (fun j hj => q1 i j hi hj)
    · have e : w = xW X := by
        unfold xPush at hw2
        rw [List.getElem?_append_right (by omega)] at hw2
        have : i - (if (xH X).length = 8 then (xH X).drop 1 else xH X).length = 0 := by omega
        rw [this] at hw2
        cases hw2; rfl
      have ei : i = F' 5 - 1 := by omega
      subst e ei
      exact mR_congr o1 hR2 (fun j hj => q2 j hj)
  · rw [ff 3 (by decide), aa 3 (by decide) (by decide)]; exact p4
  · rw [ff 28 (by decide)]; exact p5
  · rw [aa 15 (by decide) (by decide)]; exact p6
  · rw [ff 26 (by decide)]; exact p7
  · rw [aa 14 (by decide) (by decide)]; exact p8
  · rw [ff 29 (by decide)]; exact p9
  · rw [ff 7 (by decide)]; exact p10
  · obtain ⟨e0, e1, e2, e3, e4, e5⟩ := hR
    rw [a1]
    refine ⟨?_, ?_, ?_, fun c h => ⟨?_, ?_, fun p hp => ?_⟩, fun g h => ⟨?_, ?_⟩, fun k h => ⟨?_, ?_, ?_⟩⟩
    · rw [fU_ne (by decide)]; exact e0
    · rw [fU_ne (by decide)]; exact e1
    · rw [fU_eq, e2]; rfl
    · rw [fU_ne (by omega)]; exact (e3 c h).1
    · rw [fU_ne (by omega)]; exact (e3 c h).2.1
    · rw [fU_ne (by omega)]; exact (e3 c h).2.2 p hp
    · rw [fU_ne (by omega)]; exact (e4 g h).1
    · rw [fU_ne (by omega)]; exact (e4 g h).2
    · rw [fU_ne (by omega)]; exact (e5 k h).1
    · rw [fU_ne (by omega)]; exact (e5 k h).2.1
    · rw [fU_ne (by omega)]; exact (e5 k h).2.2
  · rw [ff 6 (by decide)]; exact h6
end MOD3
