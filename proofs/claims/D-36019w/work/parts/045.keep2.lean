/-! KEEP 2: what a line does keeps kr_V -/
set_option maxRecDepth 100000
theorem kr_V.ofN {S S' : kr_St} (h : kr_V S) (eI : ∀ a b, sI S' a b = sI S a b) (eL : ∀ a b, sL S' a b = sL S a b) (eN : ∀ a b, a < 100 → sN S' a b = sN S a b) (hv : ∀ v, v < sN S 2 0 → ∀ s, s < 100 → sN S' (v + 100) s < 2) : kr_V S' := by
  obtain ⟨⟨v1, v2, v3, v4⟩, ⟨i1, i2, i3, i4⟩, h3, h4, h5, h6, h7⟩ := h
  have e0 := eN 0 0 (by decide)
  have e1 := eN 1 0 (by decide)
  have e2 := eN 2 0 (by decide)
  have e14 := eN 14 0 (by decide)
  refine ⟨⟨by rw [e0]; exact v1, by rw [e1]; exact v2, by rw [e2]; exact v3, by rw [e14]; exact v4⟩, ⟨fun k hk p hp => ?_, fun d hd p hp => ?_, fun i hi q hq => ?_, fun p hp => ?_⟩, fun i hi => ?_, fun q hq => ?_, fun p hp => ?_, fun d hd => ?_, fun v hv' => ?_⟩
  · rw [e1] at hk
    rw [eL] at hp
    rw [eN 15 p (by decide)]
    exact i1 k hk p hp
  · rw [e14] at hd
    rw [eL] at hp
    rw [eN 15 p (by decide)]
    exact i2 d hd p hp
  · rw [e0] at hi
    rw [eL] at hq
    rw [eN 12 q (by decide)]
    exact i3 i hi q hq
  · rw [eN 15 p (by decide)] at hp
    rw [eN 5 p (by decide)]
    exact i4 p hp
  · rw [e0] at hi
    rw [eL, eL]
    exact h3 i hi
  · rw [eN 12 q (by decide)] at hq ⊢
    rw [eI]
    exact h4 q hq
  · rw [eN 15 p (by decide)] at hp
    obtain ⟨a1, a2, ⟨a3, a4⟩, a5, a6⟩ := h5 p hp
    refine ⟨by rw [e1]; exact a1, by rw [eN 5 p (by decide)]; exact a2, ⟨by rw [eN 8 p (by decide)]; exact a3, ?_⟩, by rw [eN 4 p (by decide), e1]; exact a5, fun d hd => ?_⟩
    · rw [eN 8 p (by decide), ← a4]
      unfold nQueue
      rw [e14]
      exact kr_countP_same (fun e => by unfold fQueue; rw [eL]) _
    · rw [eN 5 p (by decide)] at hd
      obtain ⟨f1, f2, f3, n, f4, f5⟩ := a6 d hd
      refine ⟨by rw [eN 11 _ (by decide), e0]; exact f1, by rw [eL]; exact f2, fun q hq => ?_, n, f4, by rw [eI]; exact f5⟩
      rw [eL] at hq
      rw [eN 12 q (by decide)]
      exact f3 q hq
  · obtain ⟨b1, b2⟩ := h6 d hd
    rw [eL]
    refine ⟨fun j hj => ?_, b2⟩
    rw [eN 9 d (by decide)] at hj
    rw [eN 15 j (by decide)]
    exact b1 j hj
  · rw [e2] at hv'
    obtain ⟨c1, c2⟩ := h7 v hv'
    exact ⟨by rw [eN 10 v (by decide), e1]; exact c1, hv v hv'⟩
theorem kr_V.see {S : kr_St} (h : kr_V S) {v s : Nat} : kr_V (oSee S v s) := by
  unfold oSee
  have h1 : kr_V (uI S (2 * v + 100) s (sI S (2 * v + 100) s + 1)) := h.int ⟨by omega, by omega⟩
  refine h1.ofN (fun _ _ => rfl) (fun _ _ => rfl) (fun a b ha => by rw [sN_uN, if_neg (by omega)]) (fun v' hv' s' hs' => ?_)
  rw [sN_uN]
  split
  · decide
  · exact (h1.2.2.2.2.2.2 v' hv').2 s' hs'
theorem kr_V.sees {S : kr_St} (h : kr_V S) {k s : Nat} : ∀ n, kr_V (oSees S k s n)
  | 0 => h
  | n + 1 => by
    have ih := kr_V.sees h (k := k) (s := s) n
    show kr_V (if _ then _ else _)
    split
    · exact ih.see
    · exact ih
theorem kr_V.show {S : kr_St} (h : kr_V S) {k s : Nat} : kr_V (oShow S k s) := by
  unfold oShow
  split
  · exact h
  · exact kr_V.sees (kr_V.int (kr_V.int h ⟨by decide, by decide⟩) ⟨by decide, by decide⟩) _
theorem kr_V.frame {S : kr_St} (h : kr_V S) {p d n i : Nat} (hd : d < n) (hn : n ≤ 4) (hold : ∀ d', d' < n → d' ≠ d → d' < sN S 5 p) (hi : i < sN S 0 0) : kr_V (oFrame (oDepth S p n) (4 * p + d) i) := by
  obtain ⟨⟨v1, v2, v3, v4⟩, ⟨i1, i2, i3, i4⟩, h3, h4, h5, h6, h7⟩ := h
  have e5 : ∀ b, sN (oFrame (oDepth S p n) (4 * p + d) i) 5 b = if b = p then n else sN S 5 b := fun b => by
    show sN (uL (uI (uN (uN S 5 p n) 11 (4 * p + d) i) 5 (4 * p + d) 0) 4 (4 * p + d) _) 5 b = _
    rw [sN_uL, sN_uI, sN_uN, if_neg (fun z => absurd z.1 (by decide)), sN_uN]
    by_cases hb : b = p
    · rw [if_pos ⟨rfl, hb⟩, if_pos hb]
    · rw [if_neg (fun z => hb z.2), if_neg hb]
  have e11 : ∀ b, sN (oFrame (oDepth S p n) (4 * p + d) i) 11 b = if b = 4 * p + d then i else sN S 11 b := fun b => by
    show sN (uL (uI (uN (uN S 5 p n) 11 (4 * p + d) i) 5 (4 * p + d) 0) 4 (4 * p + d) _) 11 b = _
    rw [sN_uL, sN_uI, sN_uN]
    by_cases hb : b = 4 * p + d
    · rw [if_pos ⟨rfl, hb⟩, if_pos hb]
    · rw [if_neg (fun z => hb z.2), if_neg hb, sN_uN, if_neg (fun z => absurd z.1 (by decide))]
  have eN : ∀ a b, a ≠ 5 → a ≠ 11 → sN (oFrame (oDepth S p n) (4 * p + d) i) a b = sN S a b := fun a b h5 h11 => by
    show sN (uL (uI (uN (uN S 5 p n) 11 (4 * p + d) i) 5 (4 * p + d) 0) 4 (4 * p + d) _) a b = _
    rw [sN_uL, sN_uI, sN_uN, if_neg (fun z => h11 z.1), sN_uN, if_neg (fun z => h5 z.1)]
  have eI5 : ∀ b, sI (oFrame (oDepth S p n) (4 * p + d) i) 5 b = if b = 4 * p + d then 0 else sI S 5 b := fun b => by
    show sI (uL (uI (uN (uN S 5 p n) 11 (4 * p + d) i) 5 (4 * p + d) 0) 4 (4 * p + d) _) 5 b = _
    rw [sI_uL, sI_uI]
    by_cases hb : b = 4 * p + d
    · rw [if_pos ⟨rfl, hb⟩, if_pos hb]
    · rw [if_neg (fun z => hb z.2), if_neg hb]
      rfl
  have eL4 : ∀ b, sL (oFrame (oDepth S p n) (4 * p + d) i) 4 b = if b = 4 * p + d then sL S 1 i else sL S 4 b := fun b => by
    show sL (uL (uI (uN (uN S 5 p n) 11 (4 * p + d) i) 5 (4 * p + d) 0) 4 (4 * p + d) _) 4 b = _
    rw [sL_uL]
    by_cases hb : b = 4 * p + d
    · rw [if_pos ⟨rfl, hb⟩, if_pos hb]
      rfl
    · rw [if_neg (fun z => hb z.2), if_neg hb]
      rfl
  refine ⟨⟨v1, v2, v3, v4⟩, ⟨i1, i2, i3, fun x hx => ?_⟩, h3, h4, fun x hx => ?_, h6, fun v hv => ?_⟩
  · rw [e5]
    split
    · exact hn
    · exact i4 x hx
  · obtain ⟨a1, a2, ⟨a3, a4⟩, a5, a6⟩ := h5 x hx
    refine ⟨a1, ?_, ⟨a3, a4⟩, a5, fun d' hd' => ?_⟩
    · rw [e5]
      split
      · exact ⟨by omega, hn⟩
      · exact a2
    · rw [e5] at hd'
      have hx4 := a2.2
      unfold kr_fr
      rw [e11, eI5, eL4, eN 0 0 (by decide) (by decide)]
      by_cases e : 4 * x + d' = 4 * p + d
      · rw [if_pos e, if_pos e, if_pos e]
        obtain ⟨b1, b2⟩ := h3 i hi
        rw [b2]
        exact ⟨hi, b1, i3 i hi, 0, by omega, rfl⟩
      · rw [if_neg e, if_neg e, if_neg e]
        refine a6 d' ?_
        by_cases hxp : x = p
        · subst hxp
          rw [if_pos rfl] at hd'
          exact hold d' hd' (fun z => e (by rw [z]))
        · rw [if_neg hxp] at hd'
          exact hd'
  · obtain ⟨a, c⟩ := h7 v hv
    refine ⟨a, fun s hs => ?_⟩
    rw [eN _ _ (by omega) (by omega)]
    exact c s hs
theorem kr_V.push {S : kr_St} (h : kr_V S) {p i : Nat} : kr_V (oPush S p i) := by
  unfold oPush
  split
  · rename_i hc
    exact h.frame (by omega) (by omega) (fun d' h1 h2 => by omega) hc.1
  · exact h
theorem kr_countP_pos {f : Nat → Bool} {d n : Nat} (h : f d = true) (hd : d < n) : 0 < (List.range n).countP f := List.countP_pos_iff.mpr ⟨d, List.mem_range.mpr hd, h⟩
theorem kr_V.mark {S : kr_St} (h : kr_V S) {p d : Nat} (hp : sN S 15 p = 1) (hd : d < 6) (hm : p ∈ sL S 3 d) : sN S 8 p = 1 := by
  obtain ⟨-, -, ⟨a3, a4⟩, -⟩ := h.2.2.2.2.1 p hp
  have h1 : 0 < nQueue S p := kr_countP_pos (d := d) (by unfold fQueue; exact decide_eq_true hm) (by rw [h.1.2.2.2]; exact hd)
  omega
theorem kr_V.free {S : kr_St} (h : kr_V S) {d : Nat} (hd : d < 6) : kr_V (oF S d) := by
  have hm := fun p => h.mark (p := p) (d := d)
  unfold oF
  cases hq : sL S 3 d with
  | nil => exact h.hold (fun j hj => by cases hj)
  | cons p ps =>
    have hp : sN S 15 p = 1 := h.2.1.2.1 d (by rw [h.1.2.2.2]; exact hd) p (by rw [hq]; exact List.mem_cons_self)
    have h1 := hm p hp hd (by rw [hq]; exact List.mem_cons_self)
    have hnd := (h.2.2.2.2.2.1 d hd).2.1
    rw [hq] at hnd
    obtain ⟨n1, n2⟩ := List.nodup_cons.mp hnd
    have hV : kr_V (uN (uL S 3 d ps) 8 p 0) := by
      refine h.queue hd hp (fun x hx => h.2.1.2.1 d (by rw [h.1.2.2.2]; exact hd) x (by rw [hq]; exact List.mem_cons_of_mem _ hx)) n2 (fun x hx => ?_) (by decide) ?_
      · rw [hq, List.mem_cons]
        constructor
        · exact Or.inr
        · rintro (z | z)
          · exact absurd z hx
          · exact z
      · rw [hq, if_pos List.mem_cons_self, if_neg n1, h1]
    have he : uN (uN (uL S 3 d ps) 9 d (p + 1)) 8 p 0 = uN (uN (uL S 3 d ps) 8 p 0) 9 d (p + 1) := by
      have hf : (fun a b => if a = 8 ∧ b = p then 0 else if a = 9 ∧ b = d then p + 1 else S.2.1 a b) = (fun a b => if a = 9 ∧ b = d then p + 1 else if a = 8 ∧ b = p then 0 else S.2.1 a b) := by
        funext a b
        by_cases ha : a = 8 ∧ b = p
        · rw [if_pos ha, if_neg (fun z => by omega), if_pos ha]
        · rw [if_neg ha, if_neg ha]
      show (S.1, (fun a b => if a = 8 ∧ b = p then 0 else if a = 9 ∧ b = d then p + 1 else S.2.1 a b), (uL S 3 d ps).2.2) = (S.1, (fun a b => if a = 9 ∧ b = d then p + 1 else if a = 8 ∧ b = p then 0 else S.2.1 a b), (uL S 3 d ps).2.2)
      rw [hf]
    show kr_V (uN (uN (uL S 3 d ps) 9 d (p + 1)) 8 p 0)
    rw [he]
    exact hV.hold (fun j hj => by have e : p = j := Nat.succ.inj hj; rw [← e]; exact hp)
theorem kr_V.take {S : kr_St} (h : kr_V S) {p d : Nat} (hp : sN S 15 p = 1) (h8 : sN S 8 p = 0) (hd : d < 6) : kr_V (oTake S p d) := by
  unfold oTake
  split
  · exact h
  · split
    · exact h.hold (fun j hj => by have e : p = j := Nat.succ.inj hj; rw [← e]; exact hp)
    · have hno : ¬ p ∈ sL S 3 d := fun z => by rw [h.mark hp hd z] at h8; cases h8
      refine h.queue hd hp (fun x hx => ?_) ?_ (fun x hx => ?_) (by decide) ?_
      · rcases List.mem_append.mp hx with z | z
        · exact h.2.1.2.1 d (by rw [h.1.2.2.2]; exact hd) x z
        · rw [List.mem_singleton.mp z]
          exact hp
      · refine List.nodup_append.mpr ⟨(h.2.2.2.2.2.1 d hd).2.1, by simp, fun a ha b hb => ?_⟩
        rw [List.mem_singleton.mp hb]
        exact fun z => hno (z ▸ ha)
      · rw [List.mem_append, List.mem_singleton]
        constructor
        · rintro (z | z)
          · exact z
          · exact absurd z hx
        · exact Or.inl
      · rw [if_neg hno, if_pos (List.mem_append.mpr (Or.inr (List.mem_singleton.mpr rfl))), h8]
/-- a line keeps it -/
theorem kr_V.act {S : kr_St} (h : kr_V S) {p k q : Nat} (hp : sN S 15 p = 1) (h8 : sN S 8 p = 0) (hq : sN S 12 q ≠ 0) : kr_V (oAct S p k q).1 := by
  obtain ⟨n1, n2, m, hm, m1, m2, m3, m4⟩ := h.2.2.2.1 q hq
  have hmc : (sI S 6 q).toNatClampNeg = m := by rw [hm]; exact nI_clamp (by omega)
  unfold oAct
  split
  · exact h.show
  split
  · exact h.int ⟨by decide, by decide⟩
  split
  · rename_i e
    dsimp only
    rw [hmc]
    exact h.take hp h8 (m2 (Or.inl e))
  split
  · rename_i e
    dsimp only
    rw [hmc]
    unfold oFree
    split
    · exact h.free (m2 (Or.inr e))
    · exact h
  split
  · rename_i e
    dsimp only
    rw [hm]
    exact h.next (m3 (Or.inl e))
  split
  · rename_i e
    dsimp only
    unfold oAlone
    split
    · rw [hm]
      exact h.next (m3 (Or.inr (Or.inl e)))
    · exact h
  split
  · rename_i e
    dsimp only
    split
    · rw [hm]
      exact h.next (m3 (Or.inr (Or.inr e)))
    · exact h.int ⟨by decide, by decide⟩
  split
  · exact h.int ⟨by decide, by decide⟩
  · exact h.push
