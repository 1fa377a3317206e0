/-! KEEP: each step keeps kr_V (plain law) -/
set_option maxRecDepth 100000
theorem kr_V.ofI {I I' : Nat → Nat → Int32} {r : (Nat → Nat → Nat) × (Nat → Nat → List Nat) × Int64} (h : kr_V (I, r)) (e5 : ∀ b, I' 5 b = I 5 b) (e6 : ∀ b, I' 6 b = I 6 b) : kr_V (I', r) := by
  obtain ⟨h1, h2, h3, h4, h5, h6, h7⟩ := h
  refine ⟨h1, h2, h3, fun q hq => ?_, fun p hp => ?_, h6, h7⟩
  · have h8 := h4 q hq
    show kr_num _ (I' 6 q)
    rw [e6]
    exact h8
  · obtain ⟨a, b, c, d, e⟩ := h5 p hp
    refine ⟨a, b, c, d, fun d hd => ?_⟩
    obtain ⟨f1, f2, f3, n, f4, f5⟩ := e d hd
    exact ⟨f1, f2, f3, n, f4, by show I' 5 _ = _; rw [e5]; exact f5⟩
theorem kr_V.int {S : kr_St} (h : kr_V S) {f k : Nat} {v : Int32} (hf : f ≠ 5 ∧ f ≠ 6) : kr_V (uI S f k v) :=
  kr_V.ofI (I := S.1) h (fun b => if_neg (fun z => hf.1 z.1.symm)) (fun b => if_neg (fun z => hf.2 z.1.symm))
theorem kr_V.lon {S : kr_St} (h : kr_V S) {v : Int64} : kr_V (uD S v) := h
theorem kr_V.next {S : kr_St} (h : kr_V S) {f n : Nat} (hn : n ≤ 20) : kr_V (uI S 5 f (nI n)) := by
  obtain ⟨h1, h2, h3, h4, h5, h6, h7⟩ := h
  refine ⟨h1, h2, h3, fun q hq => ?_, fun p hp => ?_, h6, h7⟩
  · have h8 := h4 q hq
    rw [sI_uI, if_neg (fun z => absurd z.1 (by decide))]
    exact h8
  · obtain ⟨a, b, c, d, e⟩ := h5 p hp
    refine ⟨a, b, c, d, fun d hd => ?_⟩
    obtain ⟨f1, f2, f3, m, f4, f5⟩ := e d hd
    refine ⟨f1, f2, f3, ?_⟩
    rw [sI_uI]
    split
    · exact ⟨n, hn, rfl⟩
    · exact ⟨m, f4, f5⟩
theorem kr_V.pop {S : kr_St} (h : kr_V S) {p : Nat} (hp : 1 < sN S 5 p) : kr_V (uN S 5 p (sN S 5 p - 1)) := by
  obtain ⟨h1, ⟨i1, i2, i3, i4⟩, h3, h4, h5, h6, h7⟩ := h
  have e5 : ∀ b, sN (uN S 5 p (sN S 5 p - 1)) 5 b ≤ sN S 5 b ∧ (0 < sN S 5 b → 0 < sN (uN S 5 p (sN S 5 p - 1)) 5 b) := fun b => by
    rw [sN_uN]
    by_cases hb : b = p
    · rw [if_pos ⟨rfl, hb⟩, hb]
      omega
    · rw [if_neg (fun z => hb z.2)]
      omega
  refine ⟨h1, ⟨i1, i2, i3, fun p' hp' => Nat.le_trans (e5 p').1 (i4 p' hp')⟩, h3, h4, fun p' hp' => ?_, h6, fun v hv => ?_⟩
  · obtain ⟨a, b, c, d, e⟩ := h5 p' hp'
    exact ⟨a, ⟨(e5 p').2 b.1, Nat.le_trans (e5 p').1 b.2⟩, c, d, fun d hd => e d (Nat.lt_of_lt_of_le hd (e5 p').1)⟩
  · obtain ⟨a, b⟩ := h7 v hv
    refine ⟨a, fun s hs => ?_⟩
    rw [sN_uN, if_neg (fun z => absurd z.1 (by omega))]
    exact b s hs
theorem kr_countP {f f' : Nat → Bool} {d : Nat} (h : ∀ e, e ≠ d → f' e = f e) : ∀ n, d < n → (List.range n).countP f' + (if f d then 1 else 0) = (List.range n).countP f + (if f' d then 1 else 0)
  | 0, hd => absurd hd (Nat.not_lt_zero _)
  | n + 1, hd => by
    rw [List.range_succ, List.countP_append, List.countP_append, List.countP_singleton, List.countP_singleton]
    by_cases e : d = n
    · subst e
      have : (List.range d).countP f' = (List.range d).countP f := by
        refine List.countP_congr fun x hx => ?_
        rw [h x (Nat.ne_of_lt (List.mem_range.mp hx))]
      rw [this]
      omega
    · have ih := kr_countP h n (by omega)
      rw [h n (fun z => e z.symm)]
      omega
theorem kr_countP_same {f f' : Nat → Bool} (h : ∀ e, f' e = f e) (n : Nat) : (List.range n).countP f' = (List.range n).countP f := by
  rw [show f' = f from funext h]
/-- a device's holder alone changes -/
theorem kr_V.hold {S : kr_St} (h : kr_V S) {d n : Nat} (hn : ∀ j, n = j + 1 → sN S 15 j = 1) : kr_V (uN S 9 d n) := by
  obtain ⟨h1, h2, h3, h4, h5, h6, h7⟩ := h
  refine ⟨h1, h2, h3, h4, h5, fun d' hd' => ⟨fun j hj => ?_, (h6 d' hd').2⟩, fun v hv => ?_⟩
  · rw [sN_uN] at hj
    split at hj
    · exact hn j hj
    · exact (h6 d' hd').1 j hj
  · obtain ⟨a, b⟩ := h7 v hv
    refine ⟨a, fun s hs => ?_⟩
    rw [sN_uN, if_neg (fun z => absurd z.1 (by omega))]
    exact b s hs
theorem kr_nodup_le : ∀ (n : Nat) (xs : List Nat), xs.Nodup → (∀ x ∈ xs, x < n) → xs.length ≤ n
  | 0, [], _, _ => Nat.le_refl _
  | 0, x :: _, _, h => absurd (h x List.mem_cons_self) (Nat.not_lt_zero _)
  | n + 1, xs, hn, h => by
    by_cases hm : n ∈ xs
    · have h1 := kr_nodup_le n (xs.erase n) (hn.erase n) (fun x hx => by
        have h2 := (hn.mem_erase_iff).mp hx
        have h3 := h x h2.2
        have h4 := h2.1
        omega)
      rw [List.length_erase_of_mem hm] at h1
      omega
    · exact Nat.le_succ_of_le (kr_nodup_le n xs hn (fun x hx => by
        have h3 := h x hx
        have h4 : x ≠ n := fun z => hm (z ▸ hx)
        omega))
theorem kr_nodup_len {xs : List Nat} (h : xs.Nodup) (hb : ∀ x ∈ xs, x < 6) : xs.length ≤ 6 := kr_nodup_le 6 xs h hb
/-- a queue and its player's mark change together -/
theorem kr_V.queue {S : kr_St} (h : kr_V S) {d p b : Nat} {xs : List Nat} (hd : d < 6) (hp : sN S 15 p = 1) (hx : ∀ x ∈ xs, sN S 15 x = 1) (hnd : xs.Nodup) (hoth : ∀ x, x ≠ p → (x ∈ xs ↔ x ∈ sL S 3 d)) (hb : b < 2) (hcnt : b + (if p ∈ sL S 3 d then 1 else 0) = sN S 8 p + (if p ∈ xs then 1 else 0)) : kr_V (uN (uL S 3 d xs) 8 p b) := by
  obtain ⟨⟨v1, v2, v3, v4⟩, ⟨i1, i2, i3, i4⟩, h3, h4, h5, h6, h7⟩ := h
  have eL : ∀ d', sL (uN (uL S 3 d xs) 8 p b) 3 d' = if d' = d then xs else sL S 3 d' := fun d' => by
    rw [sL_uN, sL_uL]
    by_cases e : d' = d
    · rw [if_pos ⟨rfl, e⟩, if_pos e]
    · rw [if_neg (fun z => e z.2), if_neg e]
  have e8 : ∀ x, sN (uN (uL S 3 d xs) 8 p b) 8 x = if x = p then b else sN S 8 x := fun x => by
    rw [sN_uN, sN_uL]
    by_cases e : x = p
    · rw [if_pos ⟨rfl, e⟩, if_pos e]
    · rw [if_neg (fun z => e z.2), if_neg e]
  refine ⟨⟨v1, v2, v3, v4⟩, ⟨i1, fun d' hd' x hx' => ?_, i3, i4⟩, h3, h4, fun x hx' => ?_, fun d' hd' => ?_, fun v hv => ?_⟩
  · rw [eL] at hx'
    split at hx'
    · exact hx x hx'
    · exact i2 d' hd' x hx'
  · obtain ⟨a1, a2, ⟨a3, a4⟩, a5, a6⟩ := h5 x hx'
    refine ⟨a1, a2, ?_, a5, a6⟩
    have hq : nQueue (uN (uL S 3 d xs) 8 p b) x + (if x ∈ sL S 3 d then 1 else 0) = nQueue S x + (if x ∈ xs then 1 else 0) := by
      have := kr_countP (f := fQueue S x) (f' := fQueue (uN (uL S 3 d xs) 8 p b) x) (d := d) (fun e he => by unfold fQueue; rw [eL, if_neg he]) (sN S 14 0) (by omega)
      unfold fQueue at this
      rw [eL, if_pos rfl] at this
      simp only [decide_eq_true_eq] at this
      exact this
    rw [e8]
    by_cases e : x = p
    · subst e
      rw [if_pos rfl]
      refine ⟨hb, ?_⟩
      rw [a4] at hq
      omega
    · rw [if_neg e]
      refine ⟨a3, ?_⟩
      have h9 := hoth x e
      by_cases hm : x ∈ xs
      · rw [if_pos hm, if_pos (h9.mp hm)] at hq
        omega
      · rw [if_neg hm, if_neg (fun z => hm (h9.mpr z))] at hq
        omega
  · obtain ⟨b1, b2, b3⟩ := h6 d' hd'
    rw [eL]
    refine ⟨b1, ?_⟩
    by_cases e : d' = d
    · rw [if_pos e]
      exact ⟨hnd, kr_nodup_len hnd fun x hx' => Nat.lt_of_lt_of_le (h5 x (hx x hx')).1 v2⟩
    · rw [if_neg e]
      exact ⟨b2, b3⟩
  · obtain ⟨a, c⟩ := h7 v hv
    refine ⟨a, fun s hs => ?_⟩
    rw [sN_uN, if_neg (fun z => absurd z.1 (by omega))]
    exact c s hs
