/-! PUSHES: a new frame gets its lasting place -/
set_option maxRecDepth 100000
/-- what lists hold is there -/
def kr_I (S : kr_St) : Prop := (∀ k, k < sN S 1 0 → ∀ p ∈ sL S 2 k, sN S 15 p = 1) ∧ (∀ d, d < sN S 14 0 → ∀ p ∈ sL S 3 d, sN S 15 p = 1) ∧ (∀ i, i < sN S 0 0 → ∀ q ∈ sL S 0 i, 8 ≤ sN S 12 q ∧ sN S 12 q ≤ 16) ∧ ∀ p, sN S 15 p = 1 → sN S 5 p ≤ 4
section
variable {G : kr_G} {l : Launch} {g g' : kr_Gh} {S S' : kr_St} {Z Z' : kr_Ro → Option kr_AE}
theorem kr_I.elem (h : kr_I S) (hg : kr_tmp (gA g)) (hZ : ∀ r z, Z r ≠ some (.inr z)) : kr_elem (gA g) (kr_cells G g S Z) := by
  obtain ⟨h1, h2, h3, h4⟩ := h
  have pl : ∀ p, sN S 15 p = 1 → kr_obj (gA g) (kr_cells G g S Z) (gA g (7, p)) := fun p hp => ⟨(7, p), 5, _, kc_7 hp, rfl, (by show (7 : Nat) ≠ 40; decide), by decide⟩
  rintro ⟨a, b⟩ z hi e he
  by_cases h18 : 18 ≤ a
  · rw [kc_Z (r := (a, b)) h18] at hi
    exact absurd hi (hZ _ _)
  rcases (show a = 0 ∨ a = 1 ∨ a = 2 ∨ a = 3 ∨ a = 4 ∨ a = 5 ∨ a = 6 ∨ a = 7 ∨ a = 8 ∨ a = 9 ∨ a = 10 ∨ a = 11 ∨ a = 12 ∨ a = 13 ∨ a = 14 ∨ a = 15 ∨ a = 16 ∨ a = 17 by omega) with rfl | rfl | rfl | rfl | rfl | rfl | rfl | rfl | rfl | rfl | rfl | rfl | rfl | rfl | rfl | rfl | rfl | rfl
  case inr.inl =>
    replace hi : (if b = 0 then _ else if b = 1 then _ else if b = 2 then _ else if b = 3 then _ else none) = (some (.inr z) : Option kr_AE) := hi
    split at hi
    · cases hi
      obtain ⟨i, hi2, rfl⟩ := List.mem_map.mp he
      exact ⟨(2, i), 3, _, kc_2 (List.mem_range.mp hi2), rfl, (by show (2 : Nat) ≠ 40; decide), by decide⟩
    · split at hi
      · cases hi
        obtain ⟨i, hi2, rfl⟩ := List.mem_map.mp he
        exact ⟨(5, i), 6, _, kc_5 (List.mem_range.mp hi2), rfl, (by show (5 : Nat) ≠ 40; decide), by decide⟩
      · split at hi
        · cases hi
          obtain ⟨i, hi2, rfl⟩ := List.mem_map.mp he
          exact ⟨(11, i), 2, _, kc_11 (List.mem_range.mp hi2), rfl, (by show (11 : Nat) ≠ 40; decide), by decide⟩
        · split at hi
          · cases hi
            obtain ⟨i, hi2, rfl⟩ := List.mem_map.mp he
            exact ⟨(13, i), 7, _, kc_13 (List.mem_range.mp hi2), rfl, (by show (13 : Nat) ≠ 40; decide), by decide⟩
          · cases hi
  all_goals (replace hi : (if _ then _ else _) = (some (.inr z) : Option kr_AE) := hi; split at hi)
  all_goals first | (cases hi; done) | skip
  · rename_i hb
    cases hi
    obtain ⟨c1, c2⟩ := h3 b hb e he
    exact ⟨(17, e), sN S 12 e, _, kc_17 (by omega), (hg e).2, (by show (17 : Nat) ≠ 40; decide), by omega⟩
  · rename_i hb
    cases hi
    obtain ⟨i, hi2, rfl⟩ := List.mem_map.mp he
    exact pl i (h1 b hb i hi2)
  · rename_i hb
    cases hi
    obtain ⟨d, hd, rfl⟩ := List.mem_map.mp he
    have hd2 : d < sN S 5 b := List.mem_range.mp hd
    have := h4 b hb
    exact ⟨(9, 4 * b + d), 4, _, kc_9 hb (by omega) hd2, rfl, (by show (9 : Nat) ≠ 40; decide), by decide⟩
  · rename_i hb
    cases hi
    obtain ⟨i, hi2, rfl⟩ := List.mem_map.mp he
    exact pl i (h2 b hb i hi2)
/-- frame f begins list i -/
def oFrame (S : kr_St) (f i : Nat) : kr_St := uL (uI (uN S 11 f i) 5 f 0) 4 f (sL S 1 i)
/-- its addresses -/
def gFrame (g : kr_Gh) (f q q2 : Nat) : kr_Gh := (kr_up (kr_up (gA g) (9, f) q) (10, f) q2, gM g, gC g)
def oDepth (S : kr_St) (p n : Nat) : kr_St := uN S 5 p n
theorem kr_S.frame {H : Heap} {p d n i q q2 : Nat} {mc : Int32} (hp : sN S 15 p = 1) (hI : kr_I S) (hg : kr_gok g) (hi : i < sN S 0 0) (hd : d < n) (hn : n ≤ 4) (hmo : sN S 5 p ≤ n) (hold : ∀ d', d' < n → d' ≠ d → d' < sN S 5 p) (hZ : ∀ r z, Z r ≠ some (.inr z)) (hq : Z (20, q) = none) (hq2 : Z (20, q2) = none) (hne : q2 ≠ q)
    (h : kr_S G (gA g) (kr_up (kr_cells G g S (kr_up (kr_up Z (20, q2) (kr_al G (sL S 1 i))) (20, q) (kr_o 4 [.ref (gA g (2, i)), .ref q2, .int 0]))) (8, p) (some (.inr ((List.range n).map (fun d' => if d' = d then q else gA g (9, 4 * p + d')), mc, 10)))) H) :
    kr_S G (gA (gL (gFrame g (4 * p + d) q q2) (8, p) mc 10)) (kr_cells G (gL (gFrame g (4 * p + d) q q2) (8, p) mc 10) (oFrame (oDepth S p n) (4 * p + d) i) Z) H := by
  generalize hg2 : gL (gFrame g (4 * p + d) q q2) (8, p) mc 10 = g2
  generalize hS2 : oFrame (oDepth S p n) (4 * p + d) i = S2
  have hd4 : d < 4 := by omega
  have eA : ∀ r : kr_Ro, r ≠ (9, 4 * p + d) → r ≠ (10, 4 * p + d) → gA g2 r = gA g r := fun r e1 e2 => by
    rw [← hg2]
    show kr_up (kr_up (gA g) _ q) _ q2 r = _
    rw [kr_up_n e2, kr_up_n e1]
  have e9 : gA g2 (9, 4 * p + d) = q := by
    rw [← hg2]
    show kr_up (kr_up (gA g) (9, 4 * p + d) q) (10, 4 * p + d) q2 (9, 4 * p + d) = q
    rw [kr_up_n (fun z => absurd (Prod.mk.inj z).1 (by decide)), kr_up_s]
  have e10 : gA g2 (10, 4 * p + d) = q2 := by
    rw [← hg2]
    exact kr_up_s
  have eN : ∀ a b, a ≠ 5 → a ≠ 11 → sN S2 a b = sN S a b := fun a b h5 h11 => by
    rw [← hS2]
    show sN (uL (uI (uN (uN S 5 p n) 11 _ i) 5 _ 0) 4 _ _) a b = _
    rw [sN_uL, sN_uI, sN_uN, if_neg (fun z => h11 z.1), sN_uN, if_neg (fun z => h5 z.1)]
  have e5 : ∀ b, sN S2 5 b = if b = p then n else sN S 5 b := fun b => by
    rw [← hS2]
    show sN (uL (uI (uN (uN S 5 p n) 11 _ i) 5 _ 0) 4 _ _) 5 b = _
    rw [sN_uL, sN_uI, sN_uN, if_neg (fun z => absurd z.1 (by decide)), sN_uN]
    by_cases hb : b = p
    · rw [if_pos ⟨rfl, hb⟩, if_pos hb]
    · rw [if_neg (fun z => hb z.2), if_neg hb]
  have e11 : ∀ b, sN S2 11 b = if b = 4 * p + d then i else sN S 11 b := fun b => by
    rw [← hS2]
    show sN (uL (uI (uN (uN S 5 p n) 11 _ i) 5 _ 0) 4 _ _) 11 b = _
    rw [sN_uL, sN_uI, sN_uN]
    by_cases hb : b = 4 * p + d
    · rw [if_pos ⟨rfl, hb⟩, if_pos hb]
    · rw [if_neg (fun z => hb z.2), if_neg hb]
      rw [sN_uN, if_neg (fun z => absurd z.1 (by decide))]
  have eI : ∀ a b, (a = 5 → b ≠ 4 * p + d) → sI S2 a b = sI S a b := fun a b h5 => by
    rw [← hS2]
    show sI (uL (uI (uN (uN S 5 p n) 11 _ i) 5 _ 0) 4 _ _) a b = _
    rw [sI_uL, sI_uI, if_neg (fun z => h5 z.1 z.2), sI_uN, sI_uN]
  have eI0 : sI S2 5 (4 * p + d) = 0 := by
    rw [← hS2]
    show sI (uL (uI (uN (uN S 5 p n) 11 _ i) 5 _ 0) 4 _ _) 5 _ = _
    rw [sI_uL, sI_uI, if_pos ⟨rfl, rfl⟩]
  have eL : ∀ a b, (a = 4 → b ≠ 4 * p + d) → sL S2 a b = sL S a b := fun a b h4 => by
    rw [← hS2]
    show sL (uL (uI (uN (uN S 5 p n) 11 _ i) 5 _ 0) 4 _ _) a b = _
    rw [sL_uL, if_neg (fun z => h4 z.1 z.2), sL_uI, sL_uN, sL_uN]
  have eL0 : sL S2 4 (4 * p + d) = sL S 1 i := by
    rw [← hS2]
    show sL (uL (uI (uN (uN S 5 p n) 11 _ i) 5 _ 0) 4 _ _) 4 _ = _
    rw [sL_uL, if_pos ⟨rfl, rfl⟩]
    rfl
  have eD : sD S2 = sD S := by rw [← hS2]; rfl
  have eM : ∀ r : kr_Ro, r ≠ (8, p) → gM g2 r = gM g r ∧ gC g2 r = gC g r := fun r hr => by
    rw [← hg2, gM_gL, gC_gL, if_neg hr, if_neg hr]
    exact ⟨rfl, rfl⟩
  have eM8 : gM g2 (8, p) = mc := by rw [← hg2, gM_gL, if_pos rfl]
  have hp2 : sN S2 15 p = 1 := by rw [eN 15 p (by decide) (by decide)]; exact hp
  have hd2 : d < sN S2 5 p := by rw [e5, if_pos rfl]; exact hd
  have eA1 : ∀ c x : Nat, c ≠ 9 → c ≠ 10 → gA g2 (c, x) = gA g (c, x) := fun c x h1 h2 => eA _ (fun z => h1 (Prod.mk.inj z).1) (fun z => h2 (Prod.mk.inj z).1)
  have eMM : ∀ c x : Nat, c ≠ 8 → gM g2 (c, x) = gM g (c, x) := fun c x h1 => (eM _ (fun z => h1 (Prod.mk.inj z).1)).1
  have eMC : ∀ c x : Nat, c ≠ 8 → gC g2 (c, x) = gC g (c, x) := fun c x h1 => (eM _ (fun z => h1 (Prod.mk.inj z).1)).2
  have eI1 : ∀ a b, a ≠ 5 → sI S2 a b = sI S a b := fun a b h => eI a b (fun z => absurd z h)
  have eL1 : ∀ a b, a ≠ 4 → sL S2 a b = sL S a b := fun a b h => eL a b (fun z => absurd z h)
  have hI2 : kr_I S2 := by
    obtain ⟨h1, h2, h3, h4⟩ := hI
    refine ⟨fun k hk x hx => ?_, fun k hk x hx => ?_, fun k hk x hx => ?_, fun x hx => ?_⟩
    · rw [eN 1 0 (by decide) (by decide)] at hk
      rw [eL1 2 k (by decide)] at hx
      rw [eN 15 x (by decide) (by decide)]
      exact h1 k hk x hx
    · rw [eN 14 0 (by decide) (by decide)] at hk
      rw [eL1 3 k (by decide)] at hx
      rw [eN 15 x (by decide) (by decide)]
      exact h2 k hk x hx
    · rw [eN 0 0 (by decide) (by decide)] at hk
      rw [eL1 0 k (by decide)] at hx
      rw [eN 12 x (by decide) (by decide)]
      exact h3 k hk x hx
    · rw [eN 15 x (by decide) (by decide)] at hx
      rw [e5]
      split
      · exact hn
      · exact h4 x hx
  have key : ∀ r : kr_Ro, r ≠ (9, 4 * p + d) → r ≠ (10, 4 * p + d) → r ≠ (8, p) → r.1 < 18 → kr_cells G g2 S2 Z r = kr_cells G g S Z r := by
    rintro ⟨a, b⟩ n9 n10 n8 ha
    have c9 : ∀ c : Nat, (b = 4 * p + d → False) → (sN S 15 (b / 4) = 1 ∧ b % 4 < sN S2 5 (b / 4) ↔ sN S 15 (b / 4) = 1 ∧ b % 4 < sN S 5 (b / 4)) := by
      intro c hb
      rw [e5]
      by_cases h : b / 4 = p
      · rw [if_pos h, h]
        constructor
        · rintro ⟨h1, h2⟩
          exact ⟨h1, hold _ h2 (fun z => hb (by omega))⟩
        · rintro ⟨h1, h2⟩
          exact ⟨h1, by omega⟩
      · rw [if_neg h]
    rcases (show a = 0 ∨ a = 1 ∨ a = 2 ∨ a = 3 ∨ a = 4 ∨ a = 5 ∨ a = 6 ∨ a = 7 ∨ a = 8 ∨ a = 9 ∨ a = 10 ∨ a = 11 ∨ a = 12 ∨ a = 13 ∨ a = 14 ∨ a = 15 ∨ a = 16 ∨ a = 17 by dsimp only at ha; omega) with rfl | rfl | rfl | rfl | rfl | rfl | rfl | rfl | rfl | rfl | rfl | rfl | rfl | rfl | rfl | rfl | rfl | rfl
    case inr.inr.inr.inr.inr.inr.inr.inr.inl =>
      show (if sN S2 15 b = 1 then some (.inr ((List.range (sN S2 5 b)).map (fun d => gA g2 (9, 4 * b + d)), gM g2 (8, b), 10)) else none : Option kr_AE) = (if sN S 15 b = 1 then some (.inr ((List.range (sN S 5 b)).map (fun d => gA g (9, 4 * b + d)), gM g (8, b), 10)) else none)
      have hb : b ≠ p := fun z => n8 (by rw [z])
      rw [eN 15 b (by decide) (by decide), e5, if_neg hb, (eM (8, b) (fun z => hb (Prod.mk.inj z).2)).1]
      by_cases h15 : sN S 15 b = 1
      · rw [if_pos h15, if_pos h15]
        have : (List.range (sN S 5 b)).map (fun d => gA g2 (9, 4 * b + d)) = (List.range (sN S 5 b)).map (fun d => gA g (9, 4 * b + d)) := by
          refine List.map_congr_left fun d' hd' => ?_
          have h1 : d' < sN S 5 b := List.mem_range.mp hd'
          have h2 := hI.2.2.2 b h15
          exact eA _ (fun z => by have := (Prod.mk.inj z).2; omega) (fun z => absurd (Prod.mk.inj z).1 (by decide))
        rw [this]
      · rw [if_neg h15, if_neg h15]
    case inr.inr.inr.inr.inr.inr.inr.inr.inr.inl =>
      have hb : b ≠ 4 * p + d := fun z => n9 (by rw [z])
      show (if sN S2 15 (b / 4) = 1 ∧ b % 4 < sN S2 5 (b / 4) then kr_o 4 [.ref (gA g2 (2, sN S2 11 b)), .ref (gA g2 (10, b)), .int (sI S2 5 b)] else none) = (if sN S 15 (b / 4) = 1 ∧ b % 4 < sN S 5 (b / 4) then kr_o 4 [.ref (gA g (2, sN S 11 b)), .ref (gA g (10, b)), .int (sI S 5 b)] else none)
      rw [eN 15 _ (by decide) (by decide), e11, if_neg hb, eA1 2 _ (by decide) (by decide), eA (10, b) (fun z => absurd (Prod.mk.inj z).1 (by decide)) (fun z => hb (Prod.mk.inj z).2), eI 5 b (fun _ => hb)]
      simp only [c9 0 hb]
    case inr.inr.inr.inr.inr.inr.inr.inr.inr.inr.inl =>
      have hb : b ≠ 4 * p + d := fun z => n10 (by rw [z])
      show (if sN S2 15 (b / 4) = 1 ∧ b % 4 < sN S2 5 (b / 4) then kr_al G (sL S2 4 b) else none) = (if sN S 15 (b / 4) = 1 ∧ b % 4 < sN S 5 (b / 4) then kr_al G (sL S 4 b) else none)
      rw [eN 15 _ (by decide) (by decide), eL 4 b (fun _ => hb)]
      simp only [c9 0 hb]
    all_goals simp only [kr_cells]
    all_goals simp [kr_li, kr_ow, eA1, eN, eI1, eL1, eMM, eMC, eD]
  refine h.map (fun r => if r = (9, 4 * p + d) then (20, q) else if r = (10, 4 * p + d) then (20, q2) else r) (fun r e hr => ?_) (fun r r' hr hr' e => ?_) (hI2.elem (fun x => ⟨by rw [eA1 40 x (by decide) (by decide)]; exact (hg.1 x).1, by rw [eA1 17 x (by decide) (by decide)]; exact (hg.1 x).2⟩) hZ)
  · by_cases r9 : r = (9, 4 * p + d)
    · rw [if_pos r9]
      subst r9
      rw [kc_9 hp2 hd4 hd2, e11, if_pos rfl, e10, eI0, eA1 2 i (by decide) (by decide)] at hr
      refine ⟨?_, by rw [e9]; exact hg.2.2 q⟩
      rw [kr_up_n (fun z => absurd (Prod.mk.inj z).1 (by decide)), kc_Z2, kr_up_s]
      exact hr
    rw [if_neg r9]
    by_cases r10 : r = (10, 4 * p + d)
    · rw [if_pos r10]
      subst r10
      rw [kc_10 hp2 hd4 hd2, eL0] at hr
      refine ⟨?_, by rw [e10]; exact hg.2.2 q2⟩
      rw [kr_up_n (fun z => absurd (Prod.mk.inj z).1 (by decide)), kc_Z2, kr_up_n (fun z => hne (Prod.mk.inj z).2), kr_up_s]
      exact hr
    rw [if_neg r10]
    refine ⟨?_, (eA r r9 r10).symm⟩
    by_cases r8 : r = (8, p)
    · subst r8
      rw [kr_up_s]
      rw [kc_8 hp2, e5, if_pos rfl, eM8] at hr
      rw [← hr]
      have : (List.range n).map (fun d' => if d' = d then q else gA g (9, 4 * p + d')) = (List.range n).map (fun d' => gA g2 (9, 4 * p + d')) := by
        refine List.map_congr_left fun d' hd' => ?_
        by_cases h1 : d' = d
        · rw [if_pos h1, h1, e9]
        · rw [if_neg h1]
          exact (eA _ (fun z => h1 (by have := (Prod.mk.inj z).2; omega)) (fun z => absurd (Prod.mk.inj z).1 (by decide))).symm
      rw [this]
    rw [kr_up_n r8]
    by_cases h18 : 18 ≤ r.1
    · rw [kc_Z h18] at hr ⊢
      rw [kr_up_n (fun z => by rw [z, hq] at hr; cases hr), kr_up_n (fun z => by rw [z, hq2] at hr; cases hr)]
      exact hr
    · rw [key r r9 r10 r8 (by omega)] at hr
      rw [← kc_up2, ← kc_up2, kr_up_n (fun z => h18 (by rw [z]; show 18 ≤ 20; decide)), kr_up_n (fun z => h18 (by rw [z]; show 18 ≤ 20; decide))]
      exact hr
  · have nz : ∀ x : Nat, Z (20, x) = none → kr_cells G g2 S2 Z (20, x) = none := fun x hx => by rw [kc_Z2]; exact hx
    by_cases a9 : r = (9, 4 * p + d)
    · by_cases b9 : r' = (9, 4 * p + d)
      · rw [a9, b9]
      · rw [if_pos a9, if_neg b9] at e
        by_cases b10 : r' = (10, 4 * p + d)
        · rw [if_pos b10] at e
          exact absurd (Prod.mk.inj e).2.symm hne
        · rw [if_neg b10] at e
          exact absurd (nz q hq) (by rw [e]; exact hr')
    · rw [if_neg a9] at e
      by_cases a10 : r = (10, 4 * p + d)
      · rw [if_pos a10] at e
        by_cases b9 : r' = (9, 4 * p + d)
        · rw [if_pos b9] at e
          exact absurd (Prod.mk.inj e).2 hne
        · rw [if_neg b9] at e
          by_cases b10 : r' = (10, 4 * p + d)
          · rw [a10, b10]
          · rw [if_neg b10] at e
            exact absurd (nz q2 hq2) (by rw [e]; exact hr')
      · rw [if_neg a10] at e
        by_cases b9 : r' = (9, 4 * p + d)
        · rw [if_pos b9] at e
          exact absurd (nz q hq) (by rw [← e]; exact hr)
        · rw [if_neg b9] at e
          by_cases b10 : r' = (10, 4 * p + d)
          · rw [if_pos b10] at e
            exact absurd (nz q2 hq2) (by rw [← e]; exact hr)
          · rw [if_neg b10] at e
            exact e
end
