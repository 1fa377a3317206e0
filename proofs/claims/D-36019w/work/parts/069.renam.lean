/-! NEW THINGS GET THEIR LASTING ROLES: lists, kiosks, visitors -/
set_option maxRecDepth 100000
/-- nothing is told of what is not yet there -/
def kr_V0 (S : kr_St) : Prop := (∀ i, sN S 0 0 ≤ i → sL S 0 i = [] ∧ sL S 1 i = []) ∧
  (∀ k, sN S 1 0 ≤ k → sN S 3 k = 0 ∧ sN S 6 k = 0 ∧ sN S 7 k = 0 ∧ sI S 3 k = 0 ∧ sI S 4 k = -1 ∧ sL S 2 k = []) ∧
  ∀ v, sN S 2 0 ≤ v → sN S 10 v = 0 ∧ ∀ s, sI S (2 * v + 100) s = 0 ∧ sI S (2 * v + 101) s = 0 ∧ sN S (v + 100) s = 0
def kr_ff (ρ : List (kr_Ro × Nat)) (r : kr_Ro) : kr_Ro := match ρ.find? (fun e => decide (e.1 = r)) with
  | some e => (20, e.2)
  | none => r
/-- things of role 20 get the roles of ρ -/
theorem kr_S.ren {G : kr_G} {ad ad' : kr_Ro → Nat} {σ σ' : kr_Ro → Option kr_AE} {H : Heap} (h : kr_S G ad σ H) (ρ : List (kr_Ro × Nat)) (hinj : ∀ e ∈ ρ, ∀ e' ∈ ρ, e.2 = e'.2 → e.1 = e'.1) (h1 : ∀ e ∈ ρ, σ (20, e.2) = σ' e.1 ∧ ad (20, e.2) = ad' e.1) (h2 : ∀ r, (∀ e ∈ ρ, e.1 ≠ r) → ∀ c, σ' r = some c → σ r = some c ∧ ad r = ad' r) (h4 : ∀ e ∈ ρ, σ' (20, e.2) = none) (he : kr_elem ad' σ') : kr_S G ad' σ' H := by
  have key : ∀ r, (∃ e ∈ ρ, e.1 = r ∧ kr_ff ρ r = (20, e.2)) ∨ ((∀ e ∈ ρ, e.1 ≠ r) ∧ kr_ff ρ r = r) := by
    intro r
    unfold kr_ff
    cases hf : ρ.find? (fun e => decide (e.1 = r)) with
    | some e =>
      have a := List.find?_some hf
      exact Or.inl ⟨e, List.mem_of_find?_eq_some hf, of_decide_eq_true a, rfl⟩
    | none =>
      refine Or.inr ⟨fun e he => ?_, rfl⟩
      have := List.find?_eq_none.mp hf e he
      simpa using this
  refine h.map (kr_ff ρ) (fun r c hr => ?_) (fun r r' hr hr' e => ?_) he
  · rcases key r with ⟨e, he, rfl, hk⟩ | ⟨hn, hk⟩
    · rw [hk]
      obtain ⟨a, b⟩ := h1 e he
      exact ⟨a.trans hr, b⟩
    · rw [hk]
      exact h2 r hn c hr
  · rcases key r with ⟨x, hx, rfl, hk⟩ | ⟨hn, hk⟩
    · rcases key r' with ⟨y, hy, rfl, hk'⟩ | ⟨hn', hk'⟩
      · rw [hk, hk'] at e
        exact hinj x hx y hy (Prod.mk.inj e).2
      · rw [hk, hk'] at e
        exact absurd (h4 x hx) (by rw [e]; exact hr')
    · rcases key r' with ⟨y, hy, rfl, hk'⟩ | ⟨hn', hk'⟩
      · rw [hk, hk'] at e
        exact absurd (h4 y hy) (by rw [← e]; exact hr)
      · rw [hk, hk'] at e
        exact e
/-- addresses for new roles, marks of a list -/
def gNew (g : kr_Gh) (ρ : List (kr_Ro × Nat)) : kr_Gh := (fun r => match ρ.find? (fun e => decide (e.1 = r)) with | some e => e.2 | none => gA g r, gM g, gC g)
theorem gNew_n {g : kr_Gh} {ρ : List (kr_Ro × Nat)} {r : kr_Ro} (h : ∀ e ∈ ρ, e.1 ≠ r) : gA (gNew g ρ) r = gA g r := by
  show (match ρ.find? (fun e => decide (e.1 = r)) with | some e => e.2 | none => gA g r) = _
  rw [List.find?_eq_none.mpr (fun e he => by simpa using h e he)]
theorem gNew_s {g : kr_Gh} {ρ : List (kr_Ro × Nat)} {r : kr_Ro} {q : Nat} : gA (gNew g ((r, q) :: ρ)) r = q := by
  show (match List.find? (fun e : kr_Ro × Nat => decide (e.1 = r)) ((r, q) :: ρ) with | some e => e.2 | none => gA g r) = q
  rw [List.find?_cons_of_pos (by simp)]
theorem gNew_t {g : kr_Gh} {ρ : List (kr_Ro × Nat)} {r r' : kr_Ro} {q : Nat} (h : r' ≠ r) : gA (gNew g ((r', q) :: ρ)) r = gA (gNew g ρ) r := by
  show (match List.find? (fun e : kr_Ro × Nat => decide (e.1 = r)) ((r', q) :: ρ) with | some e => e.2 | none => gA g r) = _
  rw [List.find?_cons_of_neg (by simpa using h)]
  rfl
theorem kr_gok_new {g : kr_Gh} (h : kr_gok g) {ρ : List (kr_Ro × Nat)} (hρ : ∀ e ∈ ρ, e.1.1 < 17) : kr_gok (gNew g ρ) := by
  refine ⟨fun q => ⟨?_, ?_⟩, h.2.1, fun q => ?_⟩
  · rw [gNew_n (fun e he z => by have := hρ e he; rw [z] at this; exact absurd this (by show ¬ 40 < 17; decide))]
    exact (h.1 q).1
  · rw [gNew_n (fun e he z => by have := hρ e he; rw [z] at this; exact absurd this (by show ¬ 17 < 17; decide))]
    exact (h.1 q).2
  · rw [gNew_n (fun e he z => by have := hρ e he; rw [z] at this; exact absurd this (by show ¬ 20 < 17; decide))]
    exact h.2.2 q
theorem kr_gsm_new {g : kr_Gh} {ρ : List (kr_Ro × Nat)} {K : List Nat} (hρ : ∀ e ∈ ρ, e.1.1 ∈ K) : kr_gsm K g (gNew g ρ) := fun r hr => ⟨gNew_n (fun e he z => hr (by rw [← z]; exact hρ e he)), rfl⟩
section
variable {G : kr_G} {l : Launch} {g g' : kr_Gh} {S S' : kr_St} {Z Z' : kr_Ro → Option kr_AE}
/-- a new list -/
theorem oList_V {S : kr_St} (h : kr_V S) (h0 : kr_V0 S) (hn : sN S 0 0 < 8) : kr_V (uN S 0 0 (sN S 0 0 + 1)) := by
  obtain ⟨⟨v1, v2, v3, v4⟩, ⟨i1, i2, i3, i4⟩, h3, h4, h5, h6, h7⟩ := h
  have eN : ∀ a b, a ≠ 0 → sN (uN S 0 0 (sN S 0 0 + 1)) a b = sN S a b := fun a b ha => by rw [sN_uN, if_neg (fun z => ha z.1)]
  have e00 : sN (uN S 0 0 (sN S 0 0 + 1)) 0 0 = sN S 0 0 + 1 := by rw [sN_uN, if_pos ⟨rfl, rfl⟩]
  refine ⟨⟨by rw [e00]; omega, v2, v3, v4⟩, ⟨i1, i2, fun i hi q hq => ?_, i4⟩, fun i hi => ?_, h4, fun p hp => ?_, h6, fun v hv => ?_⟩
  · by_cases e : i < sN S 0 0
    · exact i3 i e q hq
    · have := (h0.1 i (by omega)).1
      rw [show sL (uN S 0 0 (sN S 0 0 + 1)) 0 i = sL S 0 i from rfl, this] at hq
      cases hq
  · by_cases e : i < sN S 0 0
    · exact h3 i e
    · obtain ⟨a, b⟩ := h0.1 i (by omega)
      show (sL S 0 i).length ≤ 20 ∧ sL S 1 i = sL S 0 i
      rw [a, b]
      exact ⟨by decide, rfl⟩
  · obtain ⟨a1, a2, a3, a5, a6⟩ := h5 p hp
    refine ⟨a1, a2, a3, a5, fun d hd => ?_⟩
    obtain ⟨f1, f2, f3, m, f4, f5⟩ := a6 d hd
    exact ⟨by rw [e00]; exact Nat.lt_succ_of_lt f1, f2, f3, m, f4, f5⟩
  · obtain ⟨a, b⟩ := h7 v hv
    exact ⟨a, fun s hs => by rw [eN _ _ (by omega)]; exact b s hs⟩
theorem kr_S.newList {H : Heap} {n q q1 q2 cap : Nat} {mc : Int32} (hV : kr_V S) (h0 : kr_V0 S) (hn : sN S 0 0 = n) (hn8 : n < 8) (hg : kr_gok g) (hc : cap = 0 ∨ (10 ≤ cap ∧ cap ≤ 600)) (hZ : ∀ r z, Z r ≠ some (.inr z)) (hq : Z (20, q) = none) (hq1 : Z (20, q1) = none) (hq2 : Z (20, q2) = none) (n1 : q1 ≠ q) (n2 : q2 ≠ q) (n3 : q1 ≠ q2)
    (h : kr_S G (gA g) (kr_up (kr_cells G g S (kr_up (kr_up (kr_up Z (20, q1) kr_l0) (20, q2) (kr_al G [])) (20, q) (kr_o 3 [.ref q1, .ref q2]))) (1, 0) (some (.inr ((List.range n).map (fun i => gA g (2, i)) ++ [q], mc, cap)))) H) : kr_Hx G [1, 2, 3, 4] g (uN S 0 0 (n + 1)) Z H := by
  generalize hg2 : gL (gL (gNew g [((2, n), q), ((3, n), q1), ((4, n), q2)]) (3, n) 0 0) (1, 0) mc cap = g2
  have hV2 : kr_V (uN S 0 0 (n + 1)) := by rw [← hn]; exact oList_V hV h0 (by omega)
  have hgs : kr_gsm [1, 2, 3, 4] g g2 := by
    rw [← hg2]
    exact ((kr_gsm_new (K := [1, 2, 3, 4]) (by simp)).tr (kr_gsm_gL (r := (3, n))) (fun _ z => z) (by simp)).tr (kr_gsm_gL (r := (1, 0))) (fun _ z => z) (by simp)
  have hgk : kr_gok g2 := by
    rw [← hg2]
    exact kr_gok_gL (kr_gok_gL (kr_gok_new hg (by simp)) (Or.inl rfl)) hc
  have eA1 : ∀ c x : Nat, c ≠ 2 → c ≠ 3 → c ≠ 4 → gA g2 (c, x) = gA g (c, x) := fun c x c2 c3 c4 => by
    rw [← hg2]
    exact gNew_n (by simp; omega)
  have eAx : ∀ c x : Nat, x ≠ n → gA g2 (c, x) = gA g (c, x) := fun c x hx => by
    rw [← hg2]
    exact gNew_n (by simp; omega)
  have a2 : gA g2 (2, n) = q := by rw [← hg2]; exact gNew_s
  have a3 : gA g2 (3, n) = q1 := by rw [← hg2]; exact (gNew_t (fun z => absurd (Prod.mk.inj z).1 (by decide))).trans gNew_s
  have a4 : gA g2 (4, n) = q2 := by rw [← hg2]; exact (gNew_t (fun z => absurd (Prod.mk.inj z).1 (by decide))).trans ((gNew_t (fun z => absurd (Prod.mk.inj z).1 (by decide))).trans gNew_s)
  have eM : ∀ c x : Nat, c ≠ 1 → c ≠ 3 → gM g2 (c, x) = gM g (c, x) ∧ gC g2 (c, x) = gC g (c, x) := fun c x h1 h3 => by
    rw [← hg2]
    simp [gL, gNew, kr_up, gM, gC, h1, h3]
  have eM1 : ∀ x : Nat, x ≠ 0 → gM g2 (1, x) = gM g (1, x) ∧ gC g2 (1, x) = gC g (1, x) := fun x h1 => by
    rw [← hg2]
    simp [gL, gNew, kr_up, gM, gC, h1]
  have eM3 : ∀ x : Nat, x ≠ n → gM g2 (3, x) = gM g (3, x) ∧ gC g2 (3, x) = gC g (3, x) := fun x h1 => by
    rw [← hg2]
    simp [gL, gNew, kr_up, gM, gC, h1]
  have m3 : gM g2 (3, n) = 0 ∧ gC g2 (3, n) = 0 := by
    rw [← hg2]
    simp [gL, gNew, kr_up, gM, gC]
  have m1 : gM g2 (1, 0) = mc ∧ gC g2 (1, 0) = cap := by
    rw [← hg2]
    simp [gL, gNew, kr_up, gM, gC]
  have eN : ∀ a b, a ≠ 0 → sN (uN S 0 0 (n + 1)) a b = sN S a b := fun a b ha => by rw [sN_uN, if_neg (fun z => ha z.1)]
  have e00 : sN (uN S 0 0 (n + 1)) 0 0 = n + 1 := by rw [sN_uN, if_pos ⟨rfl, rfl⟩]
  obtain ⟨l0, l1⟩ := h0.1 n (by omega)
  refine kr_Hx.of (kr_S.ren h [((2, n), q), ((3, n), q1), ((4, n), q2)] ?_ ?_ (fun r hr c hc => ?_) ?_ (hV2.2.1.elem hgk.1 hZ)) hgs hgk
  · simp only [List.mem_cons, List.not_mem_nil, or_false]
    rintro e (rfl | rfl | rfl) e' (rfl | rfl | rfl) z <;> first | rfl | (exact absurd z n1) | (exact absurd z.symm n1) | (exact absurd z n2) | (exact absurd z.symm n2) | (exact absurd z n3) | (exact absurd z.symm n3)
  · simp only [List.mem_cons, List.not_mem_nil, or_false]
    rintro e (rfl | rfl | rfl)
    · refine ⟨?_, (hg.2.2 q).trans a2.symm⟩
      rw [kr_up_n (fun z => absurd (Prod.mk.inj z).1 (by decide)), kc_Z2, kr_up_s, kc_2 (by rw [e00]; omega), a3, a4]
    · refine ⟨?_, (hg.2.2 q1).trans a3.symm⟩
      rw [kr_up_n (fun z => absurd (Prod.mk.inj z).1 (by decide)), kc_Z2, kr_up_n (kr_ne20 n1), kr_up_n (kr_ne20 n3), kr_up_s, kc_3 (by rw [e00]; omega)]
      show kr_l0 = some (.inr (sL S 0 n, gM g2 (3, n), gC g2 (3, n)))
      rw [l0, m3.1, m3.2]
    · refine ⟨?_, (hg.2.2 q2).trans a4.symm⟩
      rw [kr_up_n (fun z => absurd (Prod.mk.inj z).1 (by decide)), kc_Z2, kr_up_n (kr_ne20 n2), kr_up_s, kc_4 (by rw [e00]; omega)]
      show kr_al G [] = kr_al G (sL S 1 n)
      rw [l1]
  · simp only [List.mem_cons, List.not_mem_nil, or_false, forall_eq_or_imp, forall_eq] at hr
    obtain ⟨r2, r3, r4⟩ := hr
    by_cases r1 : r = (1, 0)
    · subst r1
      rw [kc_l0, e00] at hc
      rw [kr_up_s]
      refine ⟨?_, (eA1 1 0 (by decide) (by decide) (by decide)).symm⟩
      rw [← hc, show kr_li g2 (1, 0) ((List.range (n + 1)).map fun i => gA g2 (2, i)) = some (.inr ((List.range (n + 1)).map (fun i => gA g2 (2, i)), gM g2 (1, 0), gC g2 (1, 0))) from rfl, m1.1, m1.2]
      have el : (List.range (n + 1)).map (fun i => gA g2 (2, i)) = (List.range n).map (fun i => gA g (2, i)) ++ [q] := by
        rw [List.range_succ, List.map_append, List.map_singleton, a2]
        congr 1
        exact List.map_congr_left fun i hi => eAx 2 i (Nat.ne_of_lt (List.mem_range.mp hi))
      rw [el]
    rw [kr_up_n r1]
    obtain ⟨a, b⟩ := r
    by_cases h18 : 18 ≤ a
    · rw [kc_Z (r := (a, b)) h18] at hc ⊢
      refine ⟨?_, (eA1 a b (by omega) (by omega) (by omega)).symm⟩
      have nz : ∀ y, Z (20, y) = none → (a, b) ≠ (20, y) := fun y hy z => by rw [z, hy] at hc; cases hc
      rw [kr_up_n (nz q hq), kr_up_n (nz q2 hq2), kr_up_n (nz q1 hq1)]
      exact hc
    have hbn : a = 2 ∨ a = 3 ∨ a = 4 → b ≠ n := by
      rintro (rfl | rfl | rfl) z
      · exact r2 (by rw [z])
      · exact r3 (by rw [z])
      · exact r4 (by rw [z])
    have hb0 : a = 1 → b ≠ 0 := by
      rintro rfl z
      exact r1 (by rw [z])
    refine ⟨?_, ?_⟩
    rotate_left
    · by_cases e : a = 2 ∨ a = 3 ∨ a = 4
      · exact (eAx a b (hbn e)).symm
      · exact (eA1 a b (by omega) (by omega) (by omega)).symm
    clear r1 r2 r3 r4
    rcases (show a = 0 ∨ a = 1 ∨ a = 2 ∨ a = 3 ∨ a = 4 ∨ a = 5 ∨ a = 6 ∨ a = 7 ∨ a = 8 ∨ a = 9 ∨ a = 10 ∨ a = 11 ∨ a = 12 ∨ a = 13 ∨ a = 14 ∨ a = 15 ∨ a = 16 ∨ a = 17 by omega) with rfl | rfl | rfl | rfl | rfl | rfl | rfl | rfl | rfl | rfl | rfl | rfl | rfl | rfl | rfl | rfl | rfl | rfl
    case inr.inl =>
      have hb := hb0 rfl
      rcases (show b = 1 ∨ b = 2 ∨ b = 3 ∨ (b ≠ 0 ∧ b ≠ 1 ∧ b ≠ 2 ∧ b ≠ 3) by omega) with rfl | rfl | rfl | hb9
      · rw [kc_l1] at hc ⊢
        rw [← hc]
        unfold kr_li
        rw [(eM1 1 (by decide)).1, (eM1 1 (by decide)).2, eN 1 0 (by decide), show (fun i => gA g2 (5, i)) = (fun i => gA g (5, i)) from funext fun i => eA1 5 i (by decide) (by decide) (by decide)]
      · rw [kc_l2] at hc ⊢
        rw [← hc]
        unfold kr_li
        rw [(eM1 2 (by decide)).1, (eM1 2 (by decide)).2, eN 14 0 (by decide), show (fun i => gA g2 (11, i)) = (fun i => gA g (11, i)) from funext fun i => eA1 11 i (by decide) (by decide) (by decide)]
      · rw [kc_l3] at hc ⊢
        rw [← hc]
        unfold kr_li
        rw [(eM1 3 (by decide)).1, (eM1 3 (by decide)).2, eN 2 0 (by decide), show (fun i => gA g2 (13, i)) = (fun i => gA g (13, i)) from funext fun i => eA1 13 i (by decide) (by decide) (by decide)]
      · replace hc : (if b = 0 then _ else if b = 1 then _ else if b = 2 then _ else if b = 3 then _ else none) = some c := hc
        rw [if_neg hb9.1, if_neg hb9.2.1, if_neg hb9.2.2.1, if_neg hb9.2.2.2] at hc
        cases hc
    case inr.inr.inl =>
      have hb := hbn (Or.inl rfl)
      replace hc : (if b < sN (uN S 0 0 (n + 1)) 0 0 then kr_o 3 [.ref (gA g2 (3, b)), .ref (gA g2 (4, b))] else none) = some c := hc
      rw [e00] at hc
      show (if b < sN S 0 0 then kr_o 3 [.ref (gA g (3, b)), .ref (gA g (4, b))] else none) = some c
      split at hc
      · rw [if_pos (by omega)]
        rw [eAx 3 b hb, eAx 4 b hb] at hc
        exact hc
      · cases hc
    case inr.inr.inr.inl =>
      have hb := hbn (Or.inr (Or.inl rfl))
      replace hc : (if b < sN (uN S 0 0 (n + 1)) 0 0 then kr_li g2 (3, b) (sL S 0 b) else none) = some c := hc
      rw [e00] at hc
      show (if b < sN S 0 0 then kr_li g (3, b) (sL S 0 b) else none) = some c
      split at hc
      · rw [if_pos (by omega)]
        unfold kr_li at hc ⊢
        rw [(eM3 b hb).1, (eM3 b hb).2] at hc
        exact hc
      · cases hc
    case inr.inr.inr.inr.inl =>
      have hb := hbn (Or.inr (Or.inr rfl))
      replace hc : (if b < sN (uN S 0 0 (n + 1)) 0 0 then kr_al G (sL S 1 b) else none) = some c := hc
      rw [e00] at hc
      show (if b < sN S 0 0 then kr_al G (sL S 1 b) else none) = some c
      split at hc
      · rw [if_pos (by omega)]
        exact hc
      · cases hc
    case inr.inr.inr.inr.inr.inr.inr.inr.inr.inl =>
      replace hc : (if sN S 15 (b / 4) = 1 ∧ b % 4 < sN S 5 (b / 4) then kr_o 4 [.ref (gA g2 (2, sN S 11 b)), .ref (gA g2 (10, b)), .int (sI S 5 b)] else none) = some c := hc
      show (if sN S 15 (b / 4) = 1 ∧ b % 4 < sN S 5 (b / 4) then kr_o 4 [.ref (gA g (2, sN S 11 b)), .ref (gA g (10, b)), .int (sI S 5 b)] else none) = some c
      split at hc
      · rename_i hh
        rw [if_pos hh]
        have hfr := ((hV.2.2.2.2.1 _ hh.1).2.2.2.2 _ hh.2).1
        rw [show 4 * (b / 4) + b % 4 = b by omega] at hfr
        rw [eAx 2 _ (by omega), eA1 10 b (by decide) (by decide) (by decide)] at hc
        exact hc
      · cases hc
    all_goals (rw [← hc]; simp only [kr_cells])
    all_goals (simp [kr_li, kr_ow, eA1, eN, eM, sI_uN, sL_uN, sD_uN]; done)
  · simp only [List.mem_cons, List.not_mem_nil, or_false]
    rintro e (rfl | rfl | rfl) <;> rw [kc_Z2] <;> assumption
/-- a new kiosk -/
theorem oKiosk_V {S : kr_St} (h : kr_V S) (h0 : kr_V0 S) (hn : sN S 1 0 < 6) : kr_V (uN S 1 0 (sN S 1 0 + 1)) := by
  obtain ⟨⟨v1, v2, v3, v4⟩, ⟨i1, i2, i3, i4⟩, h3, h4, h5, h6, h7⟩ := h
  have eN : ∀ a b, a ≠ 1 → sN (uN S 1 0 (sN S 1 0 + 1)) a b = sN S a b := fun a b ha => by rw [sN_uN, if_neg (fun z => ha z.1)]
  have e00 : sN (uN S 1 0 (sN S 1 0 + 1)) 1 0 = sN S 1 0 + 1 := by rw [sN_uN, if_pos ⟨rfl, rfl⟩]
  refine ⟨⟨v1, by rw [e00]; omega, v3, v4⟩, ⟨fun k hk q hq => ?_, i2, i3, i4⟩, h3, h4, fun p hp => ?_, h6, fun v hv => ?_⟩
  · by_cases e : k < sN S 1 0
    · exact i1 k e q hq
    · have := (h0.2.1 k (by omega)).2.2.2.2.2
      rw [show sL (uN S 1 0 (sN S 1 0 + 1)) 2 k = sL S 2 k from rfl, this] at hq
      cases hq
  · obtain ⟨a1, a2, a3, a5, a6⟩ := h5 p hp
    exact ⟨by rw [e00]; exact Nat.lt_succ_of_lt a1, a2, a3, by rw [e00]; exact Nat.le_succ_of_le a5, a6⟩
  · obtain ⟨a, b⟩ := h7 v hv
    exact ⟨by rw [e00]; exact Nat.le_succ_of_le a, fun s hs => by rw [eN _ _ (by omega)]; exact b s hs⟩
theorem kr_S.newKiosk {H : Heap} {n q q1 cap : Nat} {mc : Int32} (hV : kr_V S) (h0 : kr_V0 S) (hn : sN S 1 0 = n) (hn8 : n < 6) (hg : kr_gok g) (hc : cap = 0 ∨ (10 ≤ cap ∧ cap ≤ 600)) (hZ : ∀ r z, Z r ≠ some (.inr z)) (hq : Z (20, q) = none) (hq1 : Z (20, q1) = none) (n1 : q1 ≠ q)
    (h : kr_S G (gA g) (kr_up (kr_cells G g S (kr_up (kr_up Z (20, q1) kr_l0) (20, q) (kr_o 6 [.int (nI n), .ref q1, .null, .int 0, .int 0, .int 0, .int (-1)]))) (1, 1) (some (.inr ((List.range n).map (fun i => gA g (5, i)) ++ [q], mc, cap)))) H) : kr_Hx G [1, 5, 6] g (uN S 1 0 (n + 1)) Z H := by
  generalize hg2 : gL (gL (gNew g [((5, n), q), ((6, n), q1)]) (6, n) 0 0) (1, 1) mc cap = g2
  have hV2 : kr_V (uN S 1 0 (n + 1)) := by rw [← hn]; exact oKiosk_V hV h0 (by omega)
  have hgs : kr_gsm [1, 5, 6] g g2 := by
    rw [← hg2]
    exact ((kr_gsm_new (K := [1, 5, 6]) (by simp)).tr (kr_gsm_gL (r := (6, n))) (fun _ z => z) (by simp)).tr (kr_gsm_gL (r := (1, 1))) (fun _ z => z) (by simp)
  have hgk : kr_gok g2 := by
    rw [← hg2]
    exact kr_gok_gL (kr_gok_gL (kr_gok_new hg (by simp)) (Or.inl rfl)) hc
  have eA1 : ∀ c x : Nat, c ≠ 5 → c ≠ 6 → gA g2 (c, x) = gA g (c, x) := fun c x c2 c3 => by
    rw [← hg2]
    exact gNew_n (by simp; omega)
  have eAx : ∀ c x : Nat, x ≠ n → gA g2 (c, x) = gA g (c, x) := fun c x hx => by
    rw [← hg2]
    exact gNew_n (by simp; omega)
  have a5 : gA g2 (5, n) = q := by rw [← hg2]; exact gNew_s
  have a6 : gA g2 (6, n) = q1 := by rw [← hg2]; exact (gNew_t (fun z => absurd (Prod.mk.inj z).1 (by decide))).trans gNew_s
  have eM : ∀ c x : Nat, c ≠ 1 → c ≠ 6 → gM g2 (c, x) = gM g (c, x) ∧ gC g2 (c, x) = gC g (c, x) := fun c x h1 h3 => by
    rw [← hg2]
    simp [gL, gNew, kr_up, gM, gC, h1, h3]
  have eM1 : ∀ x : Nat, x ≠ 1 → gM g2 (1, x) = gM g (1, x) ∧ gC g2 (1, x) = gC g (1, x) := fun x h1 => by
    rw [← hg2]
    simp [gL, gNew, kr_up, gM, gC, h1]
  have eM6 : ∀ x : Nat, x ≠ n → gM g2 (6, x) = gM g (6, x) ∧ gC g2 (6, x) = gC g (6, x) := fun x h1 => by
    rw [← hg2]
    simp [gL, gNew, kr_up, gM, gC, h1]
  have m6 : gM g2 (6, n) = 0 ∧ gC g2 (6, n) = 0 := by
    rw [← hg2]
    simp [gL, gNew, kr_up, gM, gC]
  have m1 : gM g2 (1, 1) = mc ∧ gC g2 (1, 1) = cap := by
    rw [← hg2]
    simp [gL, gNew, kr_up, gM, gC]
  have eN : ∀ a b, a ≠ 1 → sN (uN S 1 0 (n + 1)) a b = sN S a b := fun a b ha => by rw [sN_uN, if_neg (fun z => ha z.1)]
  have e00 : sN (uN S 1 0 (n + 1)) 1 0 = n + 1 := by rw [sN_uN, if_pos ⟨rfl, rfl⟩]
  obtain ⟨o1, o2, o3, o4, o5, o6⟩ := h0.2.1 n (by omega)
  have eop : ∀ t, t ≤ n → va_rf (kr_op (fun i => gA g2 (5, i)) t) = va_rf (kr_op (fun i => gA g (5, i)) t) := fun t ht => by
    cases t with
    | zero => rfl
    | succ t =>
      show va_rf (some (gA g2 (5, t))) = va_rf (some (gA g (5, t)))
      rw [eAx 5 t (by omega)]
  refine kr_Hx.of (kr_S.ren h [((5, n), q), ((6, n), q1)] ?_ ?_ (fun r hr c hc => ?_) ?_ (hV2.2.1.elem hgk.1 hZ)) hgs hgk
  · simp only [List.mem_cons, List.not_mem_nil, or_false]
    rintro e (rfl | rfl) e' (rfl | rfl) z <;> first | rfl | (exact absurd z n1) | (exact absurd z.symm n1)
  · simp only [List.mem_cons, List.not_mem_nil, or_false]
    rintro e (rfl | rfl)
    · refine ⟨?_, (hg.2.2 q).trans a5.symm⟩
      rw [kr_up_n (fun z => absurd (Prod.mk.inj z).1 (by decide)), kc_Z2, kr_up_s, kc_5 (by rw [e00]; omega), a6, eN 3 n (by decide), eN 6 n (by decide), eN 7 n (by decide), o1, o2, o3, show sI (uN S 1 0 (n + 1)) 3 n = 0 from o4, show sI (uN S 1 0 (n + 1)) 4 n = -1 from o5]
      rfl
    · refine ⟨?_, (hg.2.2 q1).trans a6.symm⟩
      rw [kr_up_n (fun z => absurd (Prod.mk.inj z).1 (by decide)), kc_Z2, kr_up_n (kr_ne20 n1), kr_up_s, kc_6 (by rw [e00]; omega)]
      show kr_l0 = some (.inr ((sL S 2 n).map _, gM g2 (6, n), gC g2 (6, n)))
      rw [o6, m6.1, m6.2]
      rfl
  · simp only [List.mem_cons, List.not_mem_nil, or_false, forall_eq_or_imp, forall_eq] at hr
    obtain ⟨r5, r6⟩ := hr
    by_cases r1 : r = (1, 1)
    · subst r1
      rw [kc_l1, e00] at hc
      rw [kr_up_s]
      refine ⟨?_, (eA1 1 1 (by decide) (by decide)).symm⟩
      rw [← hc, show kr_li g2 (1, 1) ((List.range (n + 1)).map fun i => gA g2 (5, i)) = some (.inr ((List.range (n + 1)).map (fun i => gA g2 (5, i)), gM g2 (1, 1), gC g2 (1, 1))) from rfl, m1.1, m1.2]
      have el : (List.range (n + 1)).map (fun i => gA g2 (5, i)) = (List.range n).map (fun i => gA g (5, i)) ++ [q] := by
        rw [List.range_succ, List.map_append, List.map_singleton, a5]
        congr 1
        exact List.map_congr_left fun i hi => eAx 5 i (Nat.ne_of_lt (List.mem_range.mp hi))
      rw [el]
    rw [kr_up_n r1]
    obtain ⟨a, b⟩ := r
    by_cases h18 : 18 ≤ a
    · rw [kc_Z (r := (a, b)) h18] at hc ⊢
      refine ⟨?_, (eA1 a b (by omega) (by omega)).symm⟩
      have nz : ∀ y, Z (20, y) = none → (a, b) ≠ (20, y) := fun y hy z => by rw [z, hy] at hc; cases hc
      rw [kr_up_n (nz q hq), kr_up_n (nz q1 hq1)]
      exact hc
    have hbn : a = 5 ∨ a = 6 → b ≠ n := by
      rintro (rfl | rfl) z
      · exact r5 (by rw [z])
      · exact r6 (by rw [z])
    have hb0 : a = 1 → b ≠ 1 := by
      rintro rfl z
      exact r1 (by rw [z])
    refine ⟨?_, ?_⟩
    rotate_left
    · by_cases e : a = 5 ∨ a = 6
      · exact (eAx a b (hbn e)).symm
      · exact (eA1 a b (by omega) (by omega)).symm
    clear r1 r5 r6
    rcases (show a = 0 ∨ a = 1 ∨ a = 2 ∨ a = 3 ∨ a = 4 ∨ a = 5 ∨ a = 6 ∨ a = 7 ∨ a = 8 ∨ a = 9 ∨ a = 10 ∨ a = 11 ∨ a = 12 ∨ a = 13 ∨ a = 14 ∨ a = 15 ∨ a = 16 ∨ a = 17 by omega) with rfl | rfl | rfl | rfl | rfl | rfl | rfl | rfl | rfl | rfl | rfl | rfl | rfl | rfl | rfl | rfl | rfl | rfl
    case inr.inl =>
      have hb := hb0 rfl
      rcases (show b = 0 ∨ b = 2 ∨ b = 3 ∨ (b ≠ 0 ∧ b ≠ 1 ∧ b ≠ 2 ∧ b ≠ 3) by omega) with rfl | rfl | rfl | hb9
      · rw [kc_l0] at hc ⊢
        rw [← hc]
        unfold kr_li
        rw [(eM1 0 (by decide)).1, (eM1 0 (by decide)).2, eN 0 0 (by decide), show (fun i => gA g2 (2, i)) = (fun i => gA g (2, i)) from funext fun i => eA1 2 i (by decide) (by decide)]
      · rw [kc_l2] at hc ⊢
        rw [← hc]
        unfold kr_li
        rw [(eM1 2 (by decide)).1, (eM1 2 (by decide)).2, eN 14 0 (by decide), show (fun i => gA g2 (11, i)) = (fun i => gA g (11, i)) from funext fun i => eA1 11 i (by decide) (by decide)]
      · rw [kc_l3] at hc ⊢
        rw [← hc]
        unfold kr_li
        rw [(eM1 3 (by decide)).1, (eM1 3 (by decide)).2, eN 2 0 (by decide), show (fun i => gA g2 (13, i)) = (fun i => gA g (13, i)) from funext fun i => eA1 13 i (by decide) (by decide)]
      · replace hc : (if b = 0 then _ else if b = 1 then _ else if b = 2 then _ else if b = 3 then _ else none) = some c := hc
        rw [if_neg hb9.1, if_neg hb9.2.1, if_neg hb9.2.2.1, if_neg hb9.2.2.2] at hc
        cases hc
    case inr.inr.inr.inr.inr.inl =>
      have hb := hbn (Or.inl rfl)
      by_cases hh : b < sN (uN S 1 0 (n + 1)) 1 0
      · rw [kc_5 hh] at hc
        rw [e00] at hh
        rw [kc_5 (by omega), ← hc, eN 3 b (by decide), eN 6 b (by decide), eN 7 b (by decide), eAx 6 b hb]
        show kr_o 6 [_, _, va_rf (kr_ow g (sN S 3 b) b), _, _, _, _] = kr_o 6 [_, _, va_rf (kr_ow g2 (sN S 3 b) b), _, _, _, _]
        unfold kr_ow
        rw [eA1 7 b (by decide) (by decide)]
        rfl
      · replace hc : (if b < sN (uN S 1 0 (n + 1)) 1 0 then _ else none) = some c := hc
        rw [if_neg hh] at hc
        cases hc
    case inr.inr.inr.inr.inr.inr.inl =>
      have hb := hbn (Or.inr rfl)
      by_cases hh : b < sN (uN S 1 0 (n + 1)) 1 0
      · rw [kc_6 hh] at hc
        rw [e00] at hh
        rw [kc_6 (by omega), ← hc]
        unfold kr_li
        rw [(eM6 b hb).1, (eM6 b hb).2, show (fun i => gA g2 (7, i)) = (fun i => gA g (7, i)) from funext fun i => eA1 7 i (by decide) (by decide)]
        rfl
      · replace hc : (if b < sN (uN S 1 0 (n + 1)) 1 0 then _ else none) = some c := hc
        rw [if_neg hh] at hc
        cases hc
    case inr.inr.inr.inr.inr.inr.inr.inl =>
      by_cases hh : sN S 15 b = 1
      · rw [kc_7 (S := uN S 1 0 (n + 1)) hh] at hc
        have := (hV.2.2.2.2.1 b hh).2.2.2.1
        rw [kc_7 hh, ← hc, eN 4 b (by decide), eN 8 b (by decide), eop _ (by omega), eA1 8 b (by decide) (by decide)]
        rfl
      · replace hc : (if sN S 15 b = 1 then _ else none) = some c := hc
        rw [if_neg hh] at hc
        cases hc
    case inr.inr.inr.inr.inr.inr.inr.inr.inr.inr.inr.inr.inr.inl =>
      by_cases hh : b < sN S 2 0
      · rw [kc_13 (S := uN S 1 0 (n + 1)) hh] at hc
        have := (hV.2.2.2.2.2.2 b hh).1
        rw [kc_13 hh, ← hc, eN 10 b (by decide), eop _ (by omega), eA1 14 b (by decide) (by decide), eA1 15 b (by decide) (by decide), eA1 16 b (by decide) (by decide)]
      · replace hc : (if b < sN S 2 0 then _ else none) = some c := hc
        rw [if_neg hh] at hc
        cases hc
    all_goals (rw [← hc]; simp only [kr_cells])
    all_goals (simp [kr_li, kr_ow, eA1, eN, eM, sI_uN, sL_uN, sD_uN]; done)
  · simp only [List.mem_cons, List.not_mem_nil, or_false]
    rintro e (rfl | rfl) <;> rw [kc_Z2] <;> assumption
end
