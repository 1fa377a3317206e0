/-! WHO PLAYS WHERE (plain law): kr_pg with lists L; watch in plain Lean -/
set_option maxRecDepth 100000
theorem kr_V.pl {S S' : kr_St} (h : kr_V S) (eI5 : ∀ b, sI S' 5 b = sI S 5 b) (eI6 : ∀ b, sI S' 6 b = sI S 6 b) (eL : ∀ a b, a ≠ 2 → sL S' a b = sL S a b) (eN : ∀ a b, a ≠ 3 → a ≠ 4 → a ≠ 6 → a ≠ 7 → sN S' a b = sN S a b) (hp4 : ∀ p, sN S 15 p = 1 → sN S' 4 p ≤ sN S 1 0) (hp2 : ∀ k, k < sN S 1 0 → ∀ p ∈ sL S' 2 k, sN S 15 p = 1) : kr_V S' := by
  obtain ⟨⟨v1, v2, v3, v4⟩, ⟨i1, i2, i3, i4⟩, h3, h4, h5, h6, h7⟩ := h
  have e0 := eN 0 0 (by decide) (by decide) (by decide) (by decide)
  have e1 := eN 1 0 (by decide) (by decide) (by decide) (by decide)
  have e2 := eN 2 0 (by decide) (by decide) (by decide) (by decide)
  have e14 := eN 14 0 (by decide) (by decide) (by decide) (by decide)
  have e15 := fun p => eN 15 p (by decide) (by decide) (by decide) (by decide)
  have e12 := fun p => eN 12 p (by decide) (by decide) (by decide) (by decide)
  have e5 := fun p => eN 5 p (by decide) (by decide) (by decide) (by decide)
  have l0 := fun p => eL 0 p (by decide)
  have l1 := fun p => eL 1 p (by decide)
  have l3 := fun p => eL 3 p (by decide)
  have l4 := fun p => eL 4 p (by decide)
  refine ⟨⟨by rw [e0]; exact v1, by rw [e1]; exact v2, by rw [e2]; exact v3, by rw [e14]; exact v4⟩, ⟨fun k hk p hp => ?_, fun d hd p hp => ?_, fun i hi q hq => ?_, fun p hp => ?_⟩, fun i hi => ?_, fun q hq => ?_, fun p hp => ?_, fun d hd => ?_, fun v hv' => ?_⟩
  · rw [e1] at hk
    rw [e15]
    exact hp2 k hk p hp
  · rw [e14] at hd
    rw [l3] at hp
    rw [e15]
    exact i2 d hd p hp
  · rw [e0] at hi
    rw [l0] at hq
    rw [e12]
    exact i3 i hi q hq
  · rw [e15] at hp
    rw [e5]
    exact i4 p hp
  · rw [e0] at hi
    rw [l0, l1]
    exact h3 i hi
  · rw [e12] at hq ⊢
    rw [eI6]
    exact h4 q hq
  · rw [e15] at hp
    obtain ⟨a1, a2, ⟨a3, a4⟩, a5, a6⟩ := h5 p hp
    have e8 := eN 8 p (by decide) (by decide) (by decide) (by decide)
    refine ⟨by rw [e1]; exact a1, by rw [e5]; exact a2, ⟨by rw [e8]; exact a3, ?_⟩, by rw [e1]; exact hp4 p hp, fun d hd => ?_⟩
    · rw [e8, ← a4]
      unfold nQueue
      rw [e14]
      exact kr_countP_same (fun e => by unfold fQueue; rw [l3]) _
    · rw [e5] at hd
      obtain ⟨f1, f2, f3, n, f4, f5⟩ := a6 d hd
      refine ⟨by rw [eN 11 _ (by decide) (by decide) (by decide) (by decide), e0]; exact f1, by rw [l4]; exact f2, fun q hq => ?_, n, f4, by rw [eI5]; exact f5⟩
      rw [l4] at hq
      rw [e12]
      exact f3 q hq
  · obtain ⟨b1, b2⟩ := h6 d hd
    rw [l3]
    refine ⟨fun j hj => ?_, b2⟩
    rw [eN 9 d (by decide) (by decide) (by decide) (by decide)] at hj
    rw [e15]
    exact b1 j hj
  · rw [e2] at hv'
    obtain ⟨c1, c2⟩ := h7 v hv'
    refine ⟨by rw [eN 10 v (by decide) (by decide) (by decide) (by decide), e1]; exact c1, fun s hs => ?_⟩
    rw [eN (v + 100) s (by omega) (by omega) (by omega) (by omega)]
    exact c2 s hs
/-- who plays where, the lists being L -/
def kr_pg (S : kr_St) (L : Nat → List Nat) : Prop :=
  (∀ p, sN S 15 p = 1 ↔ p < sN S 1 0 ∧ sN S 3 p = 1) ∧ (∀ k, k < sN S 1 0 → sN S 3 k < 2 ∧ sN S 6 k < 2 ∧ sN S 7 k < 2) ∧
  (∀ k, k < sN S 1 0 → (L k).Nodup ∧ ∀ p, p ∈ L k ↔ sN S 15 p = 1 ∧ sN S 4 p = k + 1)
/-- between two ticks -/
def kr_Pl (S : kr_St) : Prop := kr_pg S (sL S 2) ∧ ∀ k, k < sN S 1 0 → (sN S 7 k = 1 → sL S 2 k = []) ∧ (sN S 7 k = 0 → ∃ m, m < 5 ∧ sI S 3 k = nI m)
/-- one list more is short -/
theorem kr_pg.sum {S : kr_St} {L : Nat → List Nat} (h : kr_pg S L) (h6 : sN S 1 0 ≤ 6) : ∀ n, n ≤ sN S 1 0 → ((List.range n).map (fun k => (L k).length)).sum ≤ 6 := by
  intro n hn
  have key : ∀ n, n ≤ sN S 1 0 → ∃ ys : List Nat, ys.Nodup ∧ (∀ p ∈ ys, sN S 15 p = 1 ∧ sN S 4 p ≤ n) ∧ ys.length = ((List.range n).map (fun k => (L k).length)).sum := by
    intro n
    induction n with
    | zero => exact fun _ => ⟨[], List.nodup_nil, (fun p hp => absurd hp List.not_mem_nil), rfl⟩
    | succ n ih =>
      intro hn
      obtain ⟨ys, y1, y2, y3⟩ := ih (by omega)
      obtain ⟨z1, z2⟩ := h.2.2 n (by omega)
      refine ⟨ys ++ L n, ?_, fun p hp => ?_, ?_⟩
      · refine List.nodup_append.mpr ⟨y1, z1, fun a ha b hb e => ?_⟩
        subst e
        have := (y2 a ha).2
        have := ((z2 a).mp hb).2
        omega
      · rcases List.mem_append.mp hp with h1 | h1
        · exact ⟨(y2 p h1).1, by have := (y2 p h1).2; omega⟩
        · obtain ⟨g1, g2⟩ := (z2 p).mp h1
          exact ⟨g1, by omega⟩
      · rw [List.length_append, y3, List.range_succ, List.map_append, List.sum_append]
        simp
  obtain ⟨ys, y1, y2, y3⟩ := key n hn
  rw [← y3]
  exact kr_nodup_len y1 (fun x hx => Nat.lt_of_lt_of_le ((h.1 x).mp (y2 x hx).1).1 h6)
theorem kr_pg.le {S : kr_St} {L : Nat → List Nat} (h : kr_pg S L) (h6 : sN S 1 0 ≤ 6) {k : Nat} (hk : k < sN S 1 0) : (L k).length ≤ 6 := by
  obtain ⟨z1, z2⟩ := h.2.2 k hk
  exact kr_nodup_len z1 (fun x hx => Nat.lt_of_lt_of_le ((h.1 x).mp ((z2 x).mp hx).1).1 h6)
theorem kr_pg.cg {S S' : kr_St} {L L' : Nat → List Nat} (h : kr_pg S L) (e1 : sN S' 1 0 = sN S 1 0) (e3 : ∀ p, sN S' 3 p = sN S 3 p) (e4 : ∀ p, sN S' 4 p = sN S 4 p) (e15 : ∀ p, sN S' 15 p = sN S 15 p) (e6 : ∀ k, k < sN S 1 0 → sN S' 6 k < 2) (e7 : ∀ k, k < sN S 1 0 → sN S' 7 k < 2) (eL : ∀ k, k < sN S 1 0 → L' k = L k) : kr_pg S' L' := by
  obtain ⟨h1, h2, h3⟩ := h
  refine ⟨fun p => ?_, fun k hk => ?_, fun k hk => ?_⟩
  · rw [e15, e1, e3]
    exact h1 p
  · rw [e1] at hk
    rw [e3]
    exact ⟨(h2 k hk).1, e6 k hk, e7 k hk⟩
  · rw [e1] at hk
    rw [eL k hk]
    refine ⟨(h3 k hk).1, fun p => ?_⟩
    rw [e15, e4]
    exact (h3 k hk).2 p
/-- a player moves from k (or from nowhere) to n -/
theorem kr_pg.move {S : kr_St} {L : Nat → List Nat} (h : kr_pg S L) {p n : Nat} (hp : sN S 15 p = 1) {L' : Nat → List Nat} (hfrom : ∀ k, k < sN S 1 0 → k + 1 ≠ n → (L' k).Nodup ∧ ∀ q, q ∈ L' k ↔ q ∈ L k ∧ q ≠ p) (hto : ∀ k, k < sN S 1 0 → k + 1 = n → (L' k).Nodup ∧ ∀ q, q ∈ L' k ↔ q ∈ L k ∨ q = p) : kr_pg (uN S 4 p n) L' := by
  obtain ⟨h1, h2, h3⟩ := h
  refine ⟨h1, h2, fun k hk => ?_⟩
  by_cases e : k + 1 = n
  · obtain ⟨t1, t2⟩ := hto k hk e
    refine ⟨t1, fun q => ?_⟩
    rw [t2, (h3 k hk).2 q, sN_uN, sN_uN, if_neg (fun z => absurd z.1 (by decide))]
    by_cases hq : q = p
    · rw [if_pos ⟨rfl, hq⟩, hq]
      exact ⟨fun _ => ⟨hp, e.symm⟩, fun _ => Or.inr rfl⟩
    · rw [if_neg (fun z => hq z.2)]
      exact ⟨fun z => z.resolve_right hq, Or.inl⟩
  · obtain ⟨t1, t2⟩ := hfrom k hk e
    refine ⟨t1, fun q => ?_⟩
    rw [t2, (h3 k hk).2 q, sN_uN, sN_uN, if_neg (fun z => absurd z.1 (by decide))]
    by_cases hq : q = p
    · rw [if_pos ⟨rfl, hq⟩]
      exact ⟨fun z => absurd hq z.2, fun z => absurd z.2.symm e⟩
    · rw [if_neg (fun z => hq z.2)]
      exact ⟨fun z => z.1, fun z => ⟨z, hq⟩⟩
theorem near1_ok (S : kr_St) (fr a : Nat) : near1 S fr a = 0 ∨ ∃ t, near1 S fr a = t + 1 ∧ t < sN S 1 0 ∧ sN S 7 t = 0 := by
  unfold near1
  split
  · rename_i h
    exact Or.inr ⟨_, rfl, h.2.1, h.2.2⟩
  · split
    · rename_i h
      exact Or.inr ⟨_, rfl, h.1, h.2⟩
    · exact Or.inl rfl
theorem nearG_ok (S : kr_St) (fr : Nat) : ∀ n a, nearG S fr n a = 0 ∨ ∃ t, nearG S fr n a = t + 1 ∧ t < sN S 1 0 ∧ sN S 7 t = 0
  | 0, _ => Or.inl rfl
  | n + 1, a => by
    rw [show nearG S fr (n + 1) a = if near1 S fr a ≠ 0 then near1 S fr a else nearG S fr n (a + 1) from rfl]
    split
    · exact near1_ok S fr a
    · exact nearG_ok S fr n (a + 1)
theorem oNear_ok (S : kr_St) (fr : Nat) : oNear S fr = 0 ∨ ∃ t, oNear S fr = t + 1 ∧ t < sN S 1 0 ∧ sN S 7 t = 0 := nearG_ok S fr _ _
theorem nearG_cg {S S' : kr_St} (e1 : sN S' 1 0 = sN S 1 0) (e7 : ∀ k, sN S' 7 k = sN S 7 k) (fr : Nat) : ∀ n a, nearG S' fr n a = nearG S fr n a
  | 0, _ => rfl
  | n + 1, a => by
    have e : near1 S' fr a = near1 S fr a := by
      unfold near1
      rw [e1, e7, e7]
    show (if _ then _ else _) = (if _ then _ else _)
    rw [e, nearG_cg e1 e7 fr n (a + 1)]
theorem oNear_cg {S S' : kr_St} (e1 : sN S' 1 0 = sN S 1 0) (e7 : ∀ k, sN S' 7 k = sN S 7 k) (fr : Nat) : oNear S' fr = oNear S fr := by
  unfold oNear
  rw [e1, nearG_cg e1 e7]
/-- settling changes who is where, and one list -/
theorem oSet_N (S : kr_St) (p n a b : Nat) : sN (oSet S p n) a b = if a = 4 ∧ b = p then n else sN S a b := by
  unfold oSet
  cases n with
  | zero => rfl
  | succ k =>
    show sN (uL (uN (uN S 4 p 0) 4 p (k + 1)) 2 k _) a b = _
    rw [sN_uL, sN_uN, sN_uN]
    split
    · rfl
    · rfl
theorem oSet_I (S : kr_St) (p n a b : Nat) : sI (oSet S p n) a b = sI S a b := by
  unfold oSet
  cases n <;> rfl
theorem oSet_D (S : kr_St) (p n : Nat) : sD (oSet S p n) = sD S := by
  unfold oSet
  cases n <;> rfl
def kr_ins (S : kr_St) (k p : Nat) (xs : List Nat) : List Nat := if p = k ∧ sN S 3 k = 1 then p :: xs else xs ++ [p]
theorem oSet_L (S : kr_St) (p n a b : Nat) : sL (oSet S p n) a b = if a = 2 ∧ b + 1 = n then kr_ins S b p (sL S 2 b) else sL S a b := by
  unfold oSet
  cases n with
  | zero =>
    rw [if_neg (by omega)]
    rfl
  | succ k =>
    show sL (uL (uN (uN S 4 p 0) 4 p (k + 1)) 2 k _) a b = _
    rw [sL_uL]
    by_cases h : a = 2 ∧ b = k
    · rw [if_pos h]
      obtain ⟨rfl, rfl⟩ := h
      exact (if_pos ⟨rfl, rfl⟩).symm
    · rw [if_neg h]
      exact (if_neg (fun z => h ⟨z.1, by omega⟩)).symm
theorem kr_ins_mem {S : kr_St} {k p q : Nat} {xs : List Nat} : q ∈ kr_ins S k p xs ↔ q ∈ xs ∨ q = p := by
  unfold kr_ins
  split
  · rw [List.mem_cons]
    exact or_comm
  · rw [List.mem_append, List.mem_singleton]
theorem kr_ins_nodup {S : kr_St} {k p : Nat} {xs : List Nat} (h : xs.Nodup) (hp : p ∉ xs) : (kr_ins S k p xs).Nodup := by
  unfold kr_ins
  split
  · exact List.nodup_cons.mpr ⟨hp, h⟩
  · refine List.nodup_append.mpr ⟨h, by simp, fun a ha b hb e => ?_⟩
    rw [List.mem_singleton] at hb
    subst e
    subst hb
    exact hp ha
theorem kr_ins_len {S : kr_St} {k p : Nat} {xs : List Nat} : (kr_ins S k p xs).length = xs.length + 1 := by
  unfold kr_ins
  split
  · rfl
  · rw [List.length_append]
    rfl
/-- the players of a kiosk that went out -/
def oGoing (k : Nat) : List Nat → kr_St → kr_St
  | [], S => S
  | p :: ps, S => oGoing k ps (oSet S p (oNear S k))
def oFz (S : kr_St) (k : Nat) : kr_St := uI S 3 k (sI S 3 k + nI (sN S 6 k))
def oOut (S : kr_St) (k : Nat) : kr_St := oGoing k (sL S 2 k) (uL (uN S 7 k 1) 2 k [])
def oWatch1 (S : kr_St) (k : Nat) : kr_St := if 5 ≤ sI (oFz S k) 3 k ∧ sN S 7 k = 0 then oOut (oFz S k) k else oFz S k
def oWatch (S : kr_St) : Nat → kr_St
  | 0 => S
  | n + 1 => oWatch1 (oWatch S n) n
/-- while the players of kiosk k go, xs of them still to go -/
def kr_Pw (S : kr_St) (k : Nat) (xs : List Nat) : Prop := kr_pg S (fun j => if j = k then xs else sL S 2 j) ∧ k < sN S 1 0 ∧ sN S 7 k = 1 ∧ sL S 2 k = [] ∧
  ∀ j, j < sN S 1 0 → (sN S 7 j = 1 → sL S 2 j = []) ∧ (sN S 7 j = 0 → ∃ m, m < 5 ∧ sI S 3 j = nI m)
theorem kr_Pw.done {S : kr_St} {k : Nat} (h : kr_Pw S k []) : kr_Pl S := by
  obtain ⟨h1, h2, h3, h4, h5⟩ := h
  refine ⟨h1.cg rfl (fun _ => rfl) (fun _ => rfl) (fun _ => rfl) (fun j hj => (h1.2.1 j hj).2.1) (fun j hj => (h1.2.1 j hj).2.2) (fun j hj => ?_), h5⟩
  try dsimp only
  split
  · rename_i e
    rw [e, h4]
  · rfl
theorem kr_Pw.step {S : kr_St} {k p : Nat} {xs : List Nat} (h : kr_Pw S k (p :: xs)) : kr_Pw (oSet S p (oNear S k)) k xs ∧ sN S 15 p = 1 ∧ (∀ j, oNear S k = j + 1 → j < sN S 1 0 ∧ (sN S 3 j = 1 → sN S 15 j = 1) ∧ sN S 7 j = 0 ∧ j ≠ k) := by
  obtain ⟨h1, h2, h3, h4, h5⟩ := h
  have hk := h1.2.2 k h2
  dsimp only at hk
  rw [if_pos rfl] at hk
  have hp : sN S 15 p = 1 ∧ sN S 4 p = k + 1 := (hk.2 p).mp List.mem_cons_self
  have hno : ∀ j, oNear S k = j + 1 → j < sN S 1 0 ∧ (sN S 3 j = 1 → sN S 15 j = 1) ∧ sN S 7 j = 0 ∧ j ≠ k := by
    intro j hj
    rcases oNear_ok S k with e | ⟨t, e, t1, t2⟩
    · omega
    · obtain rfl : t = j := by omega
      exact ⟨t1, fun z => (h1.1 t).mpr ⟨t1, z⟩, t2, fun z => by rw [z, h3] at t2; cases t2⟩
  have eN : ∀ a b, a ≠ 4 → sN (oSet S p (oNear S k)) a b = sN S a b := fun a b ha => by rw [oSet_N, if_neg (fun z => ha z.1)]
  have notin : ∀ j, j < sN S 1 0 → j ≠ k → p ∉ sL S 2 j := by
    intro j hj hjk hm
    have h6 := h1.2.2 j hj
    dsimp only at h6
    rw [if_neg hjk] at h6
    have := ((h6.2 p).mp hm).2
    omega
  have hmv : kr_pg (uN S 4 p (oNear S k)) (fun j => if j = k then xs else sL (oSet S p (oNear S k)) 2 j) := by
    refine h1.move hp.1 (fun j hj hjn => ?_) (fun j hj hjn => ?_)
    · try dsimp only
      by_cases hjk : j = k
      · rw [if_pos hjk, if_pos hjk]
        refine ⟨(List.nodup_cons.mp hk.1).2, fun q => ?_⟩
        rw [List.mem_cons]
        constructor
        · intro hq
          exact ⟨Or.inr hq, fun z => (List.nodup_cons.mp hk.1).1 (by rw [← z]; exact hq)⟩
        · rintro ⟨z | z, z2⟩
          · exact absurd z z2
          · exact z
      · rw [if_neg hjk, if_neg hjk, oSet_L, if_neg (fun z => hjn z.2)]
        have h6 := h1.2.2 j hj
        dsimp only at h6
        rw [if_neg hjk] at h6
        refine ⟨h6.1, fun q => ⟨fun hq => ⟨hq, fun z => notin j hj hjk (by rw [← z]; exact hq)⟩, fun hq => hq.1⟩⟩
    · try dsimp only
      have hjk : j ≠ k := (hno j hjn.symm).2.2.2
      rw [if_neg hjk, if_neg hjk, oSet_L, if_pos ⟨rfl, hjn⟩]
      have h6 := h1.2.2 j hj
      dsimp only at h6
      rw [if_neg hjk] at h6
      exact ⟨kr_ins_nodup h6.1 (notin j hj hjk), fun q => kr_ins_mem⟩
  refine ⟨⟨hmv.cg ?_ (fun q => ?_) (fun q => ?_) (fun q => ?_) (fun j hj => ?_) (fun j hj => ?_) (fun j hj => rfl), ?_, ?_, ?_, fun j hj => ?_⟩, hp.1, hno⟩
  · rw [eN 1 0 (by decide)]
    rfl
  · rw [eN 3 q (by decide)]
    rfl
  · rw [oSet_N, sN_uN]
  · rw [eN 15 q (by decide)]
    rfl
  · rw [eN 6 j (by decide)]
    exact (h1.2.1 j hj).2.1
  · rw [eN 7 j (by decide)]
    exact (h1.2.1 j hj).2.2
  · rw [eN 1 0 (by decide)]
    exact h2
  · rw [eN 7 k (by decide)]
    exact h3
  · rw [oSet_L, if_neg (fun z => (hno k z.2.symm).2.2.2 rfl)]
    exact h4
  · rw [eN 1 0 (by decide)] at hj
    rw [eN 7 j (by decide), oSet_I]
    refine ⟨fun z => ?_, (h5 j hj).2⟩
    rw [oSet_L, if_neg (fun w => by have := (hno j w.2.symm).2.2.1; omega)]
    exact (h5 j hj).1 z
theorem kr_Pw.begin {S : kr_St} {k : Nat} (h : kr_pg S (sL S 2)) (hk : k < sN S 1 0) (h5 : ∀ j, j < sN S 1 0 → j ≠ k → (sN S 7 j = 1 → sL S 2 j = []) ∧ (sN S 7 j = 0 → ∃ m, m < 5 ∧ sI S 3 j = nI m)) : kr_Pw (uL (uN S 7 k 1) 2 k []) k (sL S 2 k) := by
  have e7 : ∀ j, sN (uL (uN S 7 k 1) 2 k []) 7 j = if j = k then 1 else sN S 7 j := fun j => by
    rw [sN_uL, sN_uN]
    by_cases e : j = k
    · rw [if_pos ⟨rfl, e⟩, if_pos e]
    · rw [if_neg (fun z => e z.2), if_neg e]
  have eL : ∀ j, sL (uL (uN S 7 k 1) 2 k []) 2 j = if j = k then [] else sL S 2 j := fun j => by
    rw [sL_uL]
    by_cases e : j = k
    · rw [if_pos ⟨rfl, e⟩, if_pos e]
    · rw [if_neg (fun z => e z.2), if_neg e]
      rfl
  refine ⟨h.cg rfl (fun _ => rfl) (fun _ => rfl) (fun _ => rfl) (fun j hj => (h.2.1 j hj).2.1) (fun j hj => ?_) (fun j hj => ?_), hk, ?_, ?_, fun j hj => ?_⟩
  · rw [e7]
    split
    · decide
    · exact (h.2.1 j hj).2.2
  · try dsimp only
    split
    · rename_i e
      rw [e]
    · rename_i e
      rw [eL, if_neg e]
  · rw [e7, if_pos rfl]
  · rw [eL, if_pos rfl]
  · rw [e7, eL]
    by_cases e : j = k
    · rw [if_pos e, if_pos e]
      exact ⟨fun _ => rfl, fun z => by cases z⟩
    · rw [if_neg e, if_neg e]
      exact h5 j hj e
/-- settling keeps kr_V -/
theorem kr_V.set {S : kr_St} (h : kr_V S) {p n : Nat} (hp : sN S 15 p = 1) (hn : n ≤ sN S 1 0) : kr_V (oSet S p n) := by
  refine h.pl (fun b => oSet_I S p n 5 b) (fun b => oSet_I S p n 6 b) (fun a b ha => by rw [oSet_L, if_neg (fun z => ha z.1)]) (fun a b _ h4 _ _ => by rw [oSet_N, if_neg (fun z => h4 z.1)]) (fun q hq => ?_) (fun k hk q hq => ?_)
  · rw [oSet_N]
    split
    · exact hn
    · exact (h.2.2.2.2.1 q hq).2.2.2.1
  · rw [oSet_L] at hq
    split at hq
    · rcases kr_ins_mem.mp hq with z | z
      · exact h.2.1.1 k hk q z
      · rw [z]
        exact hp
    · exact h.2.1.1 k hk q hq
theorem oGoing_ok {k : Nat} : ∀ (xs : List Nat) {S : kr_St}, kr_V S → kr_Pw S k xs → kr_V (oGoing k xs S) ∧ kr_Pl (oGoing k xs S)
  | [], _, hV, hP => ⟨hV, hP.done⟩
  | p :: ps, S, hV, hP => by
    obtain ⟨s1, s2, s3⟩ := hP.step
    refine oGoing_ok ps (hV.set s2 ?_) s1
    cases e : oNear S k with
    | zero => exact Nat.zero_le _
    | succ j => exact (s3 j e).1
theorem oFz_V {S : kr_St} (h : kr_V S) (k : Nat) : kr_V (oFz S k) := h.int (by decide)
theorem kr_V.outk {S : kr_St} (h : kr_V S) (k : Nat) : kr_V (uL (uN S 7 k 1) 2 k []) := by
  refine h.pl (fun b => rfl) (fun b => rfl) (fun a b ha => by rw [sL_uL, if_neg (fun z => ha z.1)]; rfl) (fun a b _ _ _ h7 => by rw [sN_uL, sN_uN, if_neg (fun z => h7 z.1)]) (fun q hq => (h.2.2.2.2.1 q hq).2.2.2.1) (fun j hj q hq => ?_)
  rw [sL_uL] at hq
  split at hq
  · cases hq
  · exact h.2.1.1 j hj q hq
theorem oFz_pg {S : kr_St} {k : Nat} (h : kr_pg S (sL S 2)) : kr_pg (oFz S k) (sL (oFz S k) 2) := h
theorem oFz_I {S : kr_St} {k j : Nat} : sI (oFz S k) 3 j = if j = k then sI S 3 k + nI (sN S 6 k) else sI S 3 j := by
  unfold oFz
  rw [sI_uI]
  by_cases e : j = k
  · rw [if_pos ⟨rfl, e⟩, if_pos e]
  · rw [if_neg (fun z => e z.2), if_neg e]
theorem oWatch1_ok {S : kr_St} {k : Nat} (hV : kr_V S) (hP : kr_Pl S) (hk : k < sN S 1 0) : kr_V (oWatch1 S k) ∧ kr_Pl (oWatch1 S k) := by
  obtain ⟨h1, h2⟩ := hP
  have hw : ∀ j, j < sN (oFz S k) 1 0 → j ≠ k → (sN (oFz S k) 7 j = 1 → sL (oFz S k) 2 j = []) ∧ (sN (oFz S k) 7 j = 0 → ∃ m, m < 5 ∧ sI (oFz S k) 3 j = nI m) := fun j hj hjk => by
    rw [oFz_I, if_neg hjk]
    exact h2 j hj
  unfold oWatch1
  split
  · rename_i hc
    exact oGoing_ok _ ((oFz_V hV k).outk k) (kr_Pw.begin (S := oFz S k) h1 hk hw)
  · rename_i hc
    refine ⟨oFz_V hV k, h1, fun j hj => ?_⟩
    by_cases e : j = k
    · subst e
      refine ⟨(h2 j hj).1, fun z => ?_⟩
      obtain ⟨m, hm, e3⟩ := (h2 j hj).2 z
      have h6 := (h1.2.1 j hj).2.1
      have e4 : sI (oFz S j) 3 j = nI (m + sN S 6 j) := by rw [oFz_I, if_pos rfl, e3, nI_add]
      refine ⟨m + sN S 6 j, ?_, e4⟩
      rw [e4] at hc
      by_cases h5 : m + sN S 6 j < 5
      · exact h5
      · exact absurd ⟨nI_le (a := 5) (by omega) (by omega), z⟩ hc
    · exact hw j hj e
theorem oGoing_N {k : Nat} : ∀ (xs : List Nat) (S : kr_St) (a b : Nat), a ≠ 4 → sN (oGoing k xs S) a b = sN S a b
  | [], _, _, _, _ => rfl
  | p :: ps, S, a, b, h => by
    show sN (oGoing k ps (oSet S p (oNear S k))) a b = _
    rw [oGoing_N ps _ a b h, oSet_N, if_neg (fun z => h z.1)]
theorem oGoing_I {k : Nat} : ∀ (xs : List Nat) (S : kr_St) (a b : Nat), sI (oGoing k xs S) a b = sI S a b
  | [], _, _, _ => rfl
  | p :: ps, S, a, b => by
    show sI (oGoing k ps (oSet S p (oNear S k))) a b = _
    rw [oGoing_I ps _ a b, oSet_I]
theorem oGoing_D {k : Nat} : ∀ (xs : List Nat) (S : kr_St), sD (oGoing k xs S) = sD S
  | [], _ => rfl
  | p :: ps, S => by
    show sD (oGoing k ps (oSet S p (oNear S k))) = _
    rw [oGoing_D ps _, oSet_D]
theorem oGoing_L {k : Nat} : ∀ (xs : List Nat) (S : kr_St) (a b : Nat), a ≠ 2 → sL (oGoing k xs S) a b = sL S a b
  | [], _, _, _, _ => rfl
  | p :: ps, S, a, b, h => by
    show sL (oGoing k ps (oSet S p (oNear S k))) a b = _
    rw [oGoing_L ps _ a b h, oSet_L, if_neg (fun z => h z.1)]
theorem oWatch1_N (S : kr_St) (k a b : Nat) (h4 : a ≠ 4) (h7 : a ≠ 7) : sN (oWatch1 S k) a b = sN S a b := by
  unfold oWatch1
  split
  · unfold oOut
    rw [oGoing_N _ _ a b h4, sN_uL, sN_uN, if_neg (fun z => h7 z.1)]
    rfl
  · rfl
theorem oWatch1_I (S : kr_St) (k a b : Nat) (h3 : a ≠ 3) : sI (oWatch1 S k) a b = sI S a b := by
  have e : sI (oFz S k) a b = sI S a b := by
    unfold oFz
    rw [sI_uI, if_neg (fun z => h3 z.1)]
  unfold oWatch1
  split
  · unfold oOut
    rw [oGoing_I, sI_uL, sI_uN, e]
  · exact e
theorem oWatch1_D (S : kr_St) (k : Nat) : sD (oWatch1 S k) = sD S := by
  unfold oWatch1
  split
  · unfold oOut
    rw [oGoing_D, sD_uL, sD_uN]
    rfl
  · rfl
theorem oWatch1_L (S : kr_St) (k a b : Nat) (h2 : a ≠ 2) : sL (oWatch1 S k) a b = sL S a b := by
  unfold oWatch1
  split
  · unfold oOut
    rw [oGoing_L _ _ a b h2, sL_uL, if_neg (fun z => h2 z.1)]
    rfl
  · rfl
theorem oWatch_N (S : kr_St) (a b : Nat) (h4 : a ≠ 4) (h7 : a ≠ 7) : ∀ n, sN (oWatch S n) a b = sN S a b
  | 0 => rfl
  | n + 1 => by
    show sN (oWatch1 (oWatch S n) n) a b = _
    rw [oWatch1_N _ n a b h4 h7, oWatch_N S a b h4 h7 n]
theorem oWatch_I (S : kr_St) (a b : Nat) (h3 : a ≠ 3) : ∀ n, sI (oWatch S n) a b = sI S a b
  | 0 => rfl
  | n + 1 => by
    show sI (oWatch1 (oWatch S n) n) a b = _
    rw [oWatch1_I _ n a b h3, oWatch_I S a b h3 n]
theorem oWatch_L (S : kr_St) (a b : Nat) (h2 : a ≠ 2) : ∀ n, sL (oWatch S n) a b = sL S a b
  | 0 => rfl
  | n + 1 => by
    show sL (oWatch1 (oWatch S n) n) a b = _
    rw [oWatch1_L _ n a b h2, oWatch_L S a b h2 n]
theorem oWatch_D (S : kr_St) : ∀ n, sD (oWatch S n) = sD S
  | 0 => rfl
  | n + 1 => by
    show sD (oWatch1 (oWatch S n) n) = _
    rw [oWatch1_D, oWatch_D S n]
theorem oWatch_ok {S : kr_St} (hV : kr_V S) (hP : kr_Pl S) : ∀ n, n ≤ sN S 1 0 → kr_V (oWatch S n) ∧ kr_Pl (oWatch S n)
  | 0, _ => ⟨hV, hP⟩
  | n + 1, h => by
    obtain ⟨a1, a2⟩ := oWatch_ok hV hP n (by omega)
    exact oWatch1_ok a1 a2 (by rw [oWatch_N S 1 0 (by decide) (by decide) n]; omega)
