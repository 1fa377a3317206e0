/-! LINE -/
set_option maxRecDepth 100000
def oLine0 (S : kr_St) (i m q c : Nat) (n : Int32) : kr_St := uN (uI (uL S 0 i ((sL S 0 i).insertIdx m q)) 6 q n) 12 q c
def oAddLine (S : kr_St) (i m q c : Nat) (n : Int32) : kr_St := uL (oLine0 S i m q c n) 1 i (sL (oLine0 S i m q c n) 0 i)
theorem oLine0_N (S : kr_St) (i m q c : Nat) (n : Int32) (a b : Nat) : sN (oLine0 S i m q c n) a b = if a = 12 ∧ b = q then c else sN S a b := rfl
theorem oLine0_I (S : kr_St) (i m q c : Nat) (n : Int32) (a b : Nat) : sI (oLine0 S i m q c n) a b = if a = 6 ∧ b = q then n else sI S a b := rfl
theorem oLine0_L (S : kr_St) (i m q c : Nat) (n : Int32) (a b : Nat) : sL (oLine0 S i m q c n) a b = if a = 0 ∧ b = i then (sL S 0 i).insertIdx m q else sL S a b := rfl
theorem oAddLine_N (S : kr_St) (i m q c : Nat) (n : Int32) (a b : Nat) : sN (oAddLine S i m q c n) a b = if a = 12 ∧ b = q then c else sN S a b := rfl
theorem oAddLine_I (S : kr_St) (i m q c : Nat) (n : Int32) (a b : Nat) : sI (oAddLine S i m q c n) a b = if a = 6 ∧ b = q then n else sI S a b := rfl
theorem oAddLine_D (S : kr_St) (i m q c : Nat) (n : Int32) : sD (oAddLine S i m q c n) = sD S := rfl
theorem oAddLine_L (S : kr_St) (i m q c : Nat) (n : Int32) (a b : Nat) : sL (oAddLine S i m q c n) a b = if (a = 0 ∨ a = 1) ∧ b = i then (sL S 0 i).insertIdx m q else sL S a b := by
  unfold oAddLine
  have e0 : sL (oLine0 S i m q c n) 0 i = (sL S 0 i).insertIdx m q := by rw [oLine0_L, if_pos ⟨rfl, rfl⟩]
  rw [sL_uL, e0, oLine0_L]
  by_cases h1 : a = 1 ∧ b = i
  · rw [if_pos h1, if_pos ⟨Or.inr h1.1, h1.2⟩]
  · rw [if_neg h1]
    by_cases h0 : a = 0 ∧ b = i
    · rw [if_pos h0, if_pos ⟨Or.inl h0.1, h0.2⟩]
    · rw [if_neg h0, if_neg (fun z => z.1.elim (fun y => h0 ⟨y, z.2⟩) (fun y => h1 ⟨y, z.2⟩))]
theorem fLineOf_num {c n : Int32} {k : Nat} (h : fLineOf c n = some k) : kr_num k n := by
  have hk : k = fKind c ∧ fKind c ≠ 0 ∧ fLow (fKind c) ≤ n ∧ n ≤ fHigh (fKind c) := by
    unfold fLineOf at h
    split at h
    · rename_i hc
      exact ⟨(Option.some.inj h).symm, hc.1, hc.2.1, hc.2.2⟩
    · cases h
  obtain ⟨e, h0, h1, h2⟩ := hk
  have hr : fKind c = 0 ∨ (8 ≤ fKind c ∧ fKind c ≤ 16) := by
    unfold fKind
    repeat' split
    all_goals first | (left; rfl) | (right; exact ⟨by decide, by decide⟩)
  rw [← e] at h0 h1 h2 hr
  have hk := hr.resolve_left h0
  have hlow : (0 : Int32) ≤ fLow k := by
    unfold fLow
    split <;> decide
  have hn0 : 0 ≤ n := Int32.le_trans hlow h1
  obtain ⟨m, hm, rfl⟩ := nI_of (Int32.not_lt.mpr hn0)
  refine ⟨hk.1, hk.2, m, rfl, ?_⟩
  rcases (show k = 8 ∨ k = 9 ∨ k = 10 ∨ k = 11 ∨ k = 12 ∨ k = 13 ∨ k = 14 ∨ k = 15 ∨ k = 16 by omega) with e | e | e | e | e | e | e | e | e
  · have : m ≤ 99 := (nI_leI (b := 99) hm (by decide)).mp (by rw [e] at h2; exact h2)
    omega
  · have : m ≤ 20 := (nI_leI (b := 20) hm (by decide)).mp (by rw [e] at h2; exact h2)
    omega
  · have : m ≤ 5 := (nI_leI (b := 5) hm (by decide)).mp (by rw [e] at h2; exact h2)
    omega
  · have : m ≤ 5 := (nI_leI (b := 5) hm (by decide)).mp (by rw [e] at h2; exact h2)
    omega
  · have : m ≤ 20 := (nI_leI (b := 20) hm (by decide)).mp (by rw [e] at h2; exact h2)
    omega
  · have : m ≤ 20 := (nI_leI (b := 20) hm (by decide)).mp (by rw [e] at h2; exact h2)
    omega
  · have : m ≤ 20 := (nI_leI (b := 20) hm (by decide)).mp (by rw [e] at h2; exact h2)
    omega
  · have : m ≤ 99 := (nI_leI (b := 99) hm (by decide)).mp (by rw [e] at h2; exact h2)
    omega
  · have : m ≤ 7 := (nI_leI (b := 7) hm (by decide)).mp (by rw [e] at h2; exact h2)
    omega
theorem oLine0_I3 {S : kr_St} {i m q c : Nat} {n : Int32} (hI : kr_I S) (hm : m ≤ (sL S 0 i).length) (hq : sN S 12 q = 0) (hc : 8 ≤ c ∧ c ≤ 16) : kr_I (oLine0 S i m q c n) := by
  obtain ⟨i1, i2, i3, i4⟩ := hI
  refine ⟨i1, i2, fun j hj b hb => ?_, i4⟩
  have e0 : j < sN S 0 0 := hj
  have old : ∀ b, 8 ≤ sN S 12 b ∧ sN S 12 b ≤ 16 → 8 ≤ sN (oLine0 S i m q c n) 12 b ∧ sN (oLine0 S i m q c n) 12 b ≤ 16 := fun b h => by
    rw [oLine0_N, if_neg (fun z => by rw [z.2] at h; omega)]
    exact h
  rw [oLine0_L] at hb
  split at hb
  · rename_i e
    obtain ⟨-, rfl⟩ := e
    rcases (List.mem_insertIdx hm).mp hb with z | z
    · rw [oLine0_N, if_pos ⟨rfl, z⟩]
      exact hc
    · exact old b (i3 j e0 b z)
  · exact old b (i3 j e0 b hb)
theorem oAddLine_V {S : kr_St} {i m q c : Nat} {n : Int32} (h : kr_V S) (hm : m ≤ (sL S 0 i).length) (hl : (sL S 0 i).length < 20) (hq : sN S 12 q = 0) (hc : kr_num c n) : kr_V (oAddLine S i m q c n) := by
  obtain ⟨h1, hI, h3, h4, h5, h6, h7⟩ := h
  have hI2 := oLine0_I3 (n := n) hI hm hq ⟨hc.1, hc.2.1⟩
  refine ⟨h1, hI2, fun j hj => ?_, fun b hb => ?_, fun p hp => ?_, h6, fun v hv => ?_⟩
  · rw [oAddLine_L, oAddLine_L]
    by_cases e : j = i
    · rw [if_pos ⟨Or.inl rfl, e⟩, if_pos ⟨Or.inr rfl, e⟩]
      refine ⟨?_, rfl⟩
      rw [List.length_insertIdx_of_le_length hm]
      omega
    · rw [if_neg (fun z => e z.2), if_neg (fun z => e z.2)]
      exact h3 j hj
  · rw [oAddLine_N] at hb ⊢
    rw [oAddLine_I]
    by_cases e : b = q
    · rw [if_pos ⟨rfl, e⟩, if_pos ⟨rfl, e⟩]
      exact hc
    · rw [if_neg (fun z => e z.2), if_neg (fun z => e z.2)]
      rw [if_neg (fun z => e z.2)] at hb
      exact h4 b hb
  · obtain ⟨a1, a2, a3, a5, a6⟩ := h5 p hp
    refine ⟨a1, a2, a3, a5, fun d hd => ?_⟩
    obtain ⟨f1, f2, f3, t, f4, f5⟩ := a6 d hd
    refine ⟨f1, f2, fun b hb => ?_, t, f4, ?_⟩
    · rw [oAddLine_L, if_neg (fun z => by omega)] at hb
      have := f3 b hb
      rw [oAddLine_N, if_neg (fun z => by rw [z.2] at this; omega)]
      exact this
    · rw [oAddLine_I, if_neg (fun z => absurd z.1 (by decide))]
      exact f5
  · obtain ⟨a, b⟩ := h7 v hv
    exact ⟨a, fun s hs => by rw [oAddLine_N, if_neg (fun z => absurd z.1 (by omega))]; exact b s hs⟩
section
variable {G : kr_G} {l : Launch} {g g' : kr_Gh} {S S' : kr_St} {Z Z' : kr_Ro → Option kr_AE}
theorem kr_S.drop2 {H : Heap} {q : Nat} {e : Option kr_AE} (h : kr_S G (gA g) (kr_cells G g S (kr_up Z (20, q) e)) H) (hI : kr_I S) (hg : kr_gok g) (hZ : ∀ r z, Z r ≠ some (.inr z)) (hq : Z (20, q) = none) : kr_S G (gA g) (kr_cells G g S Z) H := by
  refine h.sub (fun r c hr => ?_) (hI.elem hg.1 hZ)
  rw [← kc_up2, kr_up_n]
  · exact hr
  · intro z
    rw [z, kc_Z2, hq] at hr
    cases hr
theorem kr_S.line0 {H : Heap} {q c : Nat} {n : Int32} (h : kr_S G (gA g) (kr_cells G g S (kr_up Z (20, q) (kr_o c [.int n]))) H) (hg : kr_gok g) : sN S 12 q = 0 := by
  by_cases e : sN S 12 q = 0
  · exact e
  · have := h.inj (i := (17, q)) (j := (20, q)) (by rw [kc_17 e]; exact fun z => by cases z) (by rw [kc_Z2, kr_up_s]; exact fun z => by cases z) (by rw [(hg.1 q).2, hg.2.2 q])
    exact absurd (Prod.mk.inj this).1 (by decide)
theorem kr_S.newLine {H : Heap} {i m q c cap : Nat} {mc n : Int32} (hI : kr_I S) (hi : i < sN S 0 0) (hm : m ≤ (sL S 0 i).length) (hq0 : sN S 12 q = 0) (hc8 : 8 ≤ c ∧ c ≤ 16) (hg : kr_gok g) (hc : cap = 0 ∨ (10 ≤ cap ∧ cap ≤ 600)) (hZ : ∀ r z, Z r ≠ some (.inr z)) (hq : Z (20, q) = none)
    (h : kr_S G (gA g) (kr_up (kr_cells G g S (kr_up Z (20, q) (kr_o c [.int n]))) (3, i) (some (.inr ((sL S 0 i).insertIdx m q, mc, cap)))) H) : kr_Hx G [3] g (oLine0 S i m q c n) Z H := by
  have hI2 := oLine0_I3 (n := n) hI hm hq0 hc8
  refine kr_Hx.of (g' := gL g (3, i) mc cap) (kr_S.ren h [((17, q), q)] ?_ ?_ (fun r hr b hb => ?_) ?_ (hI2.elem (g := gL g (3, i) mc cap) hg.1 hZ)) (kr_gsm_gL (r := (3, i))) (kr_gok_gL hg hc)
  · simp only [List.mem_cons, List.not_mem_nil, or_false]
    rintro e rfl e' rfl z
    rfl
  · simp only [List.mem_cons, List.not_mem_nil, or_false]
    rintro e rfl
    have e12 : sN (oLine0 S i m q c n) 12 q = c := by rw [oLine0_N, if_pos ⟨rfl, rfl⟩]
    have e6 : sI (oLine0 S i m q c n) 6 q = n := by rw [oLine0_I, if_pos ⟨rfl, rfl⟩]
    have k17 : kr_cells G (gL g (3, i) mc cap) (oLine0 S i m q c n) Z (17, q) = kr_o c [.int n] := by
      rw [kc_17 (by rw [e12]; omega), e12, e6]
    refine ⟨?_, (hg.2.2 q).trans ((hg.1 q).2).symm⟩
    rw [kr_up_n (fun z => absurd (Prod.mk.inj z).1 (by decide)), kc_Z2, kr_up_s]
    exact k17.symm
  · simp only [List.mem_cons, List.not_mem_nil, or_false, forall_eq] at hr
    refine ⟨?_, rfl⟩
    by_cases r3 : r = (3, i)
    · subst r3
      rw [kc_3 (S := oLine0 S i m q c n) hi] at hb
      rw [kr_up_s, ← hb]
      show _ = (some (.inr (sL (oLine0 S i m q c n) 0 i, gM (gL g (3, i) mc cap) (3, i), gC (gL g (3, i) mc cap) (3, i))) : Option kr_AE)
      rw [oLine0_L, if_pos ⟨rfl, rfl⟩, gM_gL, if_pos rfl, gC_gL, if_pos rfl]
    rw [kr_up_n r3]
    obtain ⟨a, b'⟩ := r
    by_cases h18 : 18 ≤ a
    · rw [kc_Z (r := (a, b')) h18] at hb ⊢
      rw [kr_up_n (fun z => by rw [z, hq] at hb; cases hb)]
      exact hb
    have hb3 : a = 3 → b' ≠ i := by
      rintro rfl z
      exact r3 (by rw [z])
    have hb17 : a = 17 → b' ≠ q := by
      rintro rfl z
      exact hr (by rw [z])
    have eM : ∀ r : kr_Ro, r ≠ (3, i) → gM (gL g (3, i) mc cap) r = gM g r ∧ gC (gL g (3, i) mc cap) r = gC g r := fun r hr => by
      rw [gM_gL, gC_gL, if_neg hr, if_neg hr]
      exact ⟨rfl, rfl⟩
    have eN : ∀ x y, x ≠ 12 → sN (oLine0 S i m q c n) x y = sN S x y := fun x y h => by rw [oLine0_N, if_neg (fun z => h z.1)]
    have eI : ∀ x y, x ≠ 6 → sI (oLine0 S i m q c n) x y = sI S x y := fun x y h => by rw [oLine0_I, if_neg (fun z => h z.1)]
    have eL : ∀ x y, x ≠ 0 → sL (oLine0 S i m q c n) x y = sL S x y := fun x y h => by rw [oLine0_L, if_neg (fun z => h z.1)]
    have eD : sD (oLine0 S i m q c n) = sD S := rfl
    rcases (show a = 0 ∨ a = 1 ∨ a = 2 ∨ a = 3 ∨ a = 4 ∨ a = 5 ∨ a = 6 ∨ a = 7 ∨ a = 8 ∨ a = 9 ∨ a = 10 ∨ a = 11 ∨ a = 12 ∨ a = 13 ∨ a = 14 ∨ a = 15 ∨ a = 16 ∨ a = 17 by omega) with rfl | rfl | rfl | rfl | rfl | rfl | rfl | rfl | rfl | rfl | rfl | rfl | rfl | rfl | rfl | rfl | rfl | rfl
    case inr.inr.inr.inl =>
      replace hb : (if b' < sN S 0 0 then kr_li (gL g (3, i) mc cap) (3, b') (sL (oLine0 S i m q c n) 0 b') else none) = some b := hb
      unfold kr_li at hb
      have e0 : sL (oLine0 S i m q c n) 0 b' = sL S 0 b' := by rw [oLine0_L, if_neg (fun z => hb3 rfl z.2)]
      rw [e0, (eM (3, b') r3).1, (eM (3, b') r3).2] at hb
      exact hb
    case inr.inr.inr.inr.inr.inr.inr.inr.inr.inr.inr.inr.inr.inr.inr.inr.inr =>
      replace hb : (if sN (oLine0 S i m q c n) 12 b' = 0 then none else kr_o (sN (oLine0 S i m q c n) 12 b') [.int (sI (oLine0 S i m q c n) 6 b')]) = some b := hb
      have e12 : sN (oLine0 S i m q c n) 12 b' = sN S 12 b' := by rw [oLine0_N, if_neg (fun z => hb17 rfl z.2)]
      have e6 : sI (oLine0 S i m q c n) 6 b' = sI S 6 b' := by rw [oLine0_I, if_neg (fun z => hb17 rfl z.2)]
      rw [e12, e6] at hb
      exact hb
    case inr.inr.inr.inr.inr.inr.inr.inr.inr.inr.inr.inr.inr.inr.inr.inr.inl =>
      replace hb : (if b' < sN S 2 0 then kr_ai G 1 100 (fun s => nI (sN (oLine0 S i m q c n) (b' + 100) s)) else none) = some b := hb
      rw [show (fun s => nI (sN (oLine0 S i m q c n) (b' + 100) s)) = (fun s => nI (sN S (b' + 100) s)) from funext fun s => by rw [eN _ _ (by omega)]] at hb
      exact hb
    case inr.inr.inr.inr.inr.inr.inr.inr.inr.inr.inr.inr.inr.inr.inl =>
      replace hb : (if b' < sN S 2 0 then kr_ai G 0 100 (fun s => sI (oLine0 S i m q c n) (2 * b' + 100) s) else none) = some b := hb
      rw [show (fun s => sI (oLine0 S i m q c n) (2 * b' + 100) s) = (fun s => sI S (2 * b' + 100) s) from funext fun s => by rw [eI _ _ (by omega)]] at hb
      exact hb
    case inr.inr.inr.inr.inr.inr.inr.inr.inr.inr.inr.inr.inr.inr.inr.inl =>
      replace hb : (if b' < sN S 2 0 then kr_ai G 0 100 (fun s => sI (oLine0 S i m q c n) (2 * b' + 101) s) else none) = some b := hb
      rw [show (fun s => sI (oLine0 S i m q c n) (2 * b' + 101) s) = (fun s => sI S (2 * b' + 101) s) from funext fun s => by rw [eI _ _ (by omega)]] at hb
      exact hb
    case inr.inl =>
      have e1 : ∀ t, gM (gL g (3, i) mc cap) (1, t) = gM g (1, t) ∧ gC (gL g (3, i) mc cap) (1, t) = gC g (1, t) := fun t => eM _ (fun z => absurd (Prod.mk.inj z).1 (by decide))
      rw [← hb]
      simp only [kr_cells, kr_li, gA_gL, (e1 0).1, (e1 0).2, (e1 1).1, (e1 1).2, (e1 2).1, (e1 2).2, (e1 3).1, (e1 3).2, eN 0 0 (by decide), eN 1 0 (by decide), eN 2 0 (by decide), eN 14 0 (by decide)]
    case inr.inr.inr.inr.inr.inr.inl =>
      replace hb : (if b' < sN S 1 0 then kr_li (gL g (3, i) mc cap) (6, b') ((sL S 2 b').map fun i => gA g (7, i)) else none) = some b := hb
      unfold kr_li at hb
      rw [(eM (6, b') r3).1, (eM (6, b') r3).2] at hb
      exact hb
    case inr.inr.inr.inr.inr.inr.inr.inr.inl =>
      replace hb : (if sN S 15 b' = 1 then some (.inr ((List.range (sN S 5 b')).map (fun d => gA g (9, 4 * b' + d)), gM (gL g (3, i) mc cap) (8, b'), 10)) else none : Option kr_AE) = some b := hb
      rw [(eM (8, b') r3).1] at hb
      exact hb
    case inr.inr.inr.inr.inr.inr.inr.inr.inr.inr.inr.inr.inl =>
      replace hb : (if b' < sN S 14 0 then kr_li (gL g (3, i) mc cap) (12, b') ((sL S 3 b').map fun i => gA g (7, i)) else none) = some b := hb
      unfold kr_li at hb
      rw [(eM (12, b') r3).1, (eM (12, b') r3).2] at hb
      exact hb
    all_goals exact hb
  · simp only [List.mem_cons, List.not_mem_nil, or_false]
    rintro e rfl
    rw [kc_Z2]
    exact hq
/-- what fails when a line is told -/
def kx_line (S : kr_St) (i p c n : Int32) (E : String) : Prop := (¬ (0 ≤ i ∧ i < nI (sN S 0 0)) ∧ E = kE_I) ∨ ∃ k, i = nI k ∧ k < sN S 0 0 ∧ ((¬ (0 ≤ p ∧ p < nI ((sL S 0 k).length + 1)) ∧ E = kE_I) ∨ ((0 ≤ p ∧ p < nI ((sL S 0 k).length + 1)) ∧ ((fLineOf c n = none ∧ E = kE_A) ∨ (fLineOf c n ≠ none ∧ (sL S 0 k).length = 20 ∧ E = kE_S))))
theorem kr_line20 {xs : List Nat} {mc : Int32} {cap : Nat} (hl : xs.length < 20) (hc : cap = 0 ∨ (10 ≤ cap ∧ cap ≤ 600)) : kr_gc (xs, mc, cap) ≤ 1 ∧ kr_gs (xs, mc, cap) ≤ 28 ∧ (xs.length ≤ cap → 10 ≤ kr_nc (xs, mc, cap) ∧ kr_nc (xs, mc, cap) ≤ 600) := by
  unfold kr_gc kr_gs kr_nc
  by_cases h : xs.length = cap
  · dsimp only
    rw [if_pos h, if_pos h, if_pos h]
    unfold kr_cap
    split
    · omega
    · omega
  · dsimp only
    rw [if_neg h, if_neg h, if_neg h]
    omega
theorem ct_X1_line (hF : kr_F G l) (hg : kr_gok g) (hV : kr_V S) (hZ : ∀ r z, Z r ≠ some (.inr z)) (i p c n : Int32) : kr_T G l yX1_line (ws_ yX1_line cX1_line 7 (Option.some Jvm.ClassFile.FieldType.int)) 8 700 [.ref (gA g (0, 0)), .int i, .int p, .int c, .int n] (kr_S G (gA g) (kr_cells G g S Z)) 7 73 (fun v H => ∃ a : Nat × Nat × Nat × Nat, (i = nI a.1 ∧ a.1 < sN S 0 0 ∧ p = nI a.2.1 ∧ a.2.1 ≤ (sL S 0 a.1).length ∧ fLineOf c n = some a.2.2.2 ∧ (sL S 0 a.1).length < 20 ∧ sN S 12 a.2.2.1 = 0 ∧ v = some (.int (nI ((sL S 0 a.1).length + 1)))) ∧ kr_Hx G [3, 4] g (oAddLine S a.1 a.2.1 a.2.2.1 a.2.2.2 n) Z H) (fun E H => kx_line S i p c n E ∧ kr_S G (gA g) (kr_cells G g S Z) H) := by
  have hL8 : sN S 0 0 ≤ 8 := hV.1.1
  refine kr_T.of (by decide +kernel) hF (by simp [Value.category]) (Nat.le_of_ble_eq_true rfl) (fun x hx X => ?_)
  refine kj_aload_n X dX1_line_0 rfl rfl (by first | exact ⟨some _, rfl⟩ | exact ⟨none, rfl⟩ | exact ⟨_, rfl⟩) ?_
  refine kj_iload_n X dX1_line_1 rfl rfl ?_
  refine kj_callV X 1 (ct_X1_listAt X.F i hL8) (lw_V q564 q566 qs6 q43 q567) ⟨rfl, by decide, by decide, by decide +kernel⟩ dX1_line_2 rfl rfl (by first | exact Nat.le_of_ble_eq_true rfl | simp [kr_cat, Value.category]) ⟨Nat.le_of_ble_eq_true rfl, Nat.le_of_ble_eq_true rfl⟩ ⟨by dsimp only; omega, by dsimp only; omega⟩ kc_X1.1 (fun H h => h.rc (kc_kio)) (fun E => kjx_out X (by omega) (by omega) (fun H h => ⟨Or.inl h.1, h.2⟩)) (fun v_2 => ?_)
  refine kj_open (fun k hk => ?_)
  obtain ⟨rfl, hk, rfl⟩ := hk
  have hlen : (sL S 0 k).length ≤ 20 := (hV.2.2.1 k hk).1
  refine kj_astore (lv' := [_, _, _, _, _, _, _]) X dX1_line_5 (by decide) (by intro w h _; cases h <;> first | rfl | exact kr_cat _) (by first | exact ⟨some _, rfl⟩ | exact ⟨none, rfl⟩ | exact ⟨_, rfl⟩) rfl ?_
  refine kj_iload_n X dX1_line_7 rfl rfl ?_
  refine kj_aload X dX1_line_8 rfl (by first | exact ⟨some _, rfl⟩ | exact ⟨none, rfl⟩ | exact ⟨_, rfl⟩) ?_
  refine kj_getN X kc_X4 0 (by decide) q515 rfl dX1_line_10 (fun H h => h.own (kc_2 hk)) rfl ?_
  refine kj_callF X 0 (ct_J2_size X.F (kc_3 hk)) q478 q481 q483 q46 q485 q480 q479 q484 q482 q148 ⟨by decide, by decide, by decide +kernel⟩ dX1_line_13 rfl rfl (by first | exact Nat.le_of_ble_eq_true rfl | simp [kr_cat, Value.category]) ⟨Nat.le_of_ble_eq_true rfl, Nat.le_of_ble_eq_true rfl⟩ ⟨by dsimp only; omega, by dsimp only; omega⟩ kc_J2.1 (fun H h => h.list (kc_3 hk)) (fun E => kjx_no) (fun v_13 => ?_)
  refine kj_and (fun e_13 => ?_)
  subst e_13
  rw [show (sL S 0 k, gM g (3, k), gC g (3, k)).1.length = (sL S 0 k).length from rfl]
  refine kj_iconst (v := 1) X dX1_line_18 (by decide) ?_
  refine kj_iadd X dX1_line_19 ?_
  rw [nI_1]
  refine kj_callS X 2 (ct_X1_requireIndex X.F p (nI ((sL S 0 k).length + 1)) (kr_S G (gA g) (kr_cells G g S Z)) kr_S.mono) (lw_S q568 q569 q43 q570) ⟨by decide, by decide, by decide +kernel⟩ dX1_line_20 rfl rfl (by first | exact Nat.le_of_ble_eq_true rfl | simp [kr_cat, Value.category]) ⟨Nat.le_of_ble_eq_true rfl, Nat.le_of_ble_eq_true rfl⟩ ⟨by dsimp only; omega, by dsimp only; omega⟩ (fun E => kjx_out X (by omega) (by omega) (fun H h => ⟨Or.inr ⟨k, rfl, hk, Or.inl ⟨h.1, h.2.1⟩⟩, h.2.2⟩)) (fun v_20 => ?_)
  refine kj_and (fun hr => ?_)
  refine kj_and (fun e => ?_)
  subst e
  obtain ⟨m, rfl, hm⟩ := kr_ix hr (by omega)
  cases hf : fLineOf c n with
  | none =>
    refine kj_iload_n X dX1_line_23 rfl rfl ?_
    refine kj_iload X dX1_line_24 rfl ?_
    refine kj_callS X 2 (ct_X1_lineOf0 X.F hg hf) (lw_S q605 q606 q43 q607) ⟨by decide, by decide, by decide +kernel⟩ dX1_line_26 rfl rfl (by first | exact Nat.le_of_ble_eq_true rfl | simp [kr_cat, Value.category]) ⟨Nat.le_of_ble_eq_true rfl, Nat.le_of_ble_eq_true rfl⟩ ⟨by dsimp only; omega, by dsimp only; omega⟩ (fun E => kjx_no) (fun v_26 => ?_)
    refine kj_and (fun e_26 => ?_)
    subst e_26
    refine kj_astore (lv' := [_, _, _, _, _, _, _]) X dX1_line_29 (by decide) (by intro w h _; cases h <;> first | rfl | exact kr_cat _) (by first | exact ⟨some _, rfl⟩ | exact ⟨none, rfl⟩ | exact ⟨_, rfl⟩) rfl ?_
    refine kj_aload X dX1_line_31 rfl (by first | exact ⟨some _, rfl⟩ | exact ⟨none, rfl⟩ | exact ⟨_, rfl⟩) ?_
    refine kj_ifnull X (by first | exact Eq.refl (va_rf (some _)) | exact Eq.refl (va_rf none) | exact Eq.refl (va_rf _)) 40 dX1_line_33 (by decide) (fun c_33 => ?_) (fun a_33 c_33 => ?_)
    · refine kj_iconst (v := 0) X dX1_line_40 (by decide) ?_
      refine kj_callS X 1 (ct_X1_requireValid X.F false (kr_S G (gA g) (kr_cells G g S Z)) kr_S.mono) (lw_S q697 q698 q43 q699) ⟨by decide, by decide, by decide +kernel⟩ dX1_line_41 rfl rfl (by first | exact Nat.le_of_ble_eq_true rfl | simp [kr_cat, Value.category]) ⟨Nat.le_of_ble_eq_true rfl, Nat.le_of_ble_eq_true rfl⟩ ⟨by dsimp only; omega, by dsimp only; omega⟩ (fun E => kjx_out X (by omega) (by omega) (fun H h => ⟨Or.inr ⟨k, rfl, hk, Or.inr ⟨hr, Or.inl ⟨hf, h.2.1⟩⟩⟩, h.2.2⟩)) (fun v_41 => ?_)
      refine kj_and (fun z => ?_)
      cases z
    · cases c_33
  | some t =>
    have hnum := fLineOf_num hf
    refine kj_iload_n X dX1_line_23 rfl rfl ?_
    refine kj_iload X dX1_line_24 rfl ?_
    refine kj_callS X 2 (ct_X1_lineOf X.F hg hf) (lw_S q605 q606 q43 q607) ⟨by decide, by decide, by decide +kernel⟩ dX1_line_26 rfl rfl (by first | exact Nat.le_of_ble_eq_true rfl | simp [kr_cat, Value.category]) ⟨Nat.le_of_ble_eq_true rfl, Nat.le_of_ble_eq_true rfl⟩ ⟨by dsimp only; omega, by dsimp only; omega⟩ (fun E => kjx_no) (fun v_26 => ?_)
    refine kj_open (fun q hq => ?_)
    obtain ⟨hv, hq⟩ := hq
    subst hv
    rw [show (some (Value.ref q)).toList = [Value.ref (gA g (20, q))] from by rw [hg.2.2 q]; rfl]
    refine kj_pure (fun H h => h.line0 hg) (fun hq0 => ?_)
    refine kj_pure (fun H h => h.fits (kc_3 hk)) (fun hfit => ?_)
    refine kj_astore (lv' := [_, _, _, _, _, _, _]) X dX1_line_29 (by decide) (by intro w h _; cases h <;> first | rfl | exact kr_cat _) (by first | exact ⟨some _, rfl⟩ | exact ⟨none, rfl⟩ | exact ⟨_, rfl⟩) rfl ?_
    refine kj_aload X dX1_line_31 rfl (by first | exact ⟨some _, rfl⟩ | exact ⟨none, rfl⟩ | exact ⟨_, rfl⟩) ?_
    refine kj_ifnull X (by first | exact Eq.refl (va_rf (some _)) | exact Eq.refl (va_rf none) | exact Eq.refl (va_rf _)) 40 dX1_line_33 (by decide) (fun c_33 => ?_) (fun a_33 c_33 => ?_)
    · cases c_33
    refine kj_iconst (v := 1) X dX1_line_36 (by decide) ?_
    refine kj_goto X 41 dX1_line_37 (by decide) ?_
    refine kj_callS X 1 (ct_X1_requireValid X.F true (kr_S G (gA g) (kr_cells G g S (kr_up Z (20, q) (kr_o t [.int n])))) kr_S.mono) (lw_S q697 q698 q43 q699) ⟨by decide, by decide, by decide +kernel⟩ dX1_line_41 rfl rfl (by first | exact Nat.le_of_ble_eq_true rfl | simp [kr_cat, Value.category]) ⟨Nat.le_of_ble_eq_true rfl, Nat.le_of_ble_eq_true rfl⟩ ⟨by dsimp only; omega, by dsimp only; omega⟩ (fun E => kjx_pure (fun H h => h.1) (fun z => by cases z)) (fun v_41 => ?_)
    refine kj_and (fun _ => ?_)
    refine kj_and (fun e => ?_)
    subst e
    refine kj_aload X dX1_line_44 rfl (by first | exact ⟨some _, rfl⟩ | exact ⟨none, rfl⟩ | exact ⟨_, rfl⟩) ?_
    refine kj_getN X kc_X4 0 (by decide) q515 rfl dX1_line_46 (fun H h => h.own (kc_2 hk)) rfl ?_
    refine kj_callF X 0 (ct_J2_size X.F (kc_3 hk)) q478 q481 q483 q46 q485 q480 q479 q484 q482 q148 ⟨by decide, by decide, by decide +kernel⟩ dX1_line_49 rfl rfl (by first | exact Nat.le_of_ble_eq_true rfl | simp [kr_cat, Value.category]) ⟨Nat.le_of_ble_eq_true rfl, Nat.le_of_ble_eq_true rfl⟩ ⟨by dsimp only; omega, by dsimp only; omega⟩ kc_J2.1 (fun H h => h.list (kc_3 hk)) (fun E => kjx_no) (fun v_49 => ?_)
    refine kj_and (fun e_49 => ?_)
    subst e_49
    rw [show (sL S 0 k, gM g (3, k), gC g (3, k)).1.length = (sL S 0 k).length from rfl]
    refine kj_bipush (v := 20) X dX1_line_54 (by decide) ?_
    refine kj_icmp_ge X 63 dX1_line_56 (by decide) (fun c_56 => ?_) (fun c_56 => ?_)
    · have e20 : (sL S 0 k).length = 20 := by
        have := (nI_leI (a := 20) (by decide) (by omega)).mp c_56
        omega
      refine kj_iconst (v := 0) X dX1_line_63 (by decide) ?_
      refine kj_callS X 1 (ct_X1_requireState X.F false (kr_S G (gA g) (kr_cells G g S (kr_up Z (20, q) (kr_o t [.int n])))) kr_S.mono) (lw_S q486 q487 q43 q488) ⟨by decide, by decide, by decide +kernel⟩ dX1_line_64 rfl rfl (by first | exact Nat.le_of_ble_eq_true rfl | simp [kr_cat, Value.category]) ⟨Nat.le_of_ble_eq_true rfl, Nat.le_of_ble_eq_true rfl⟩ ⟨by dsimp only; omega, by dsimp only; omega⟩ (fun E => kjx_out X (by omega) (by omega) (fun H h => ⟨Or.inr ⟨k, rfl, hk, Or.inr ⟨hr, Or.inr ⟨(by rw [hf]; exact fun z => by cases z), e20, h.2.1⟩⟩⟩, h.2.2.drop2 hV.2.1 hg hZ hq⟩)) (fun v_64 => ?_)
      refine kj_and (fun z => ?_)
      cases z
    have hlt : (sL S 0 k).length < 20 := by
      by_cases e : (sL S 0 k).length < 20
      · exact e
      · exact absurd (nI_le (a := 20) (by omega) (by omega)) c_56
    refine kj_iconst (v := 1) X dX1_line_59 (by decide) ?_
    refine kj_goto X 64 dX1_line_60 (by decide) ?_
    refine kj_callS X 1 (ct_X1_requireState X.F true (kr_S G (gA g) (kr_cells G g S (kr_up Z (20, q) (kr_o t [.int n])))) kr_S.mono) (lw_S q486 q487 q43 q488) ⟨by decide, by decide, by decide +kernel⟩ dX1_line_64 rfl rfl (by first | exact Nat.le_of_ble_eq_true rfl | simp [kr_cat, Value.category]) ⟨Nat.le_of_ble_eq_true rfl, Nat.le_of_ble_eq_true rfl⟩ ⟨by dsimp only; omega, by dsimp only; omega⟩ (fun E => kjx_pure (fun H h => h.1) (fun z => by cases z)) (fun v_64 => ?_)
    refine kj_and (fun _ => ?_)
    refine kj_and (fun e => ?_)
    subst e
    obtain ⟨g1, g2, g3⟩ := kr_line20 (mc := gM g (3, k)) hlt (hg.2.1 (3, k))
    have hob : kr_obj (gA g) (kr_cells G g S (kr_up Z (20, q) (kr_o t [.int n]))) (gA g (20, q)) := ⟨(20, q), t, _, (by rw [kc_Z2, kr_up_s]), rfl, (by show (20 : Nat) ≠ 40; decide), by have := hnum.2.1; omega⟩
    have hc6 : gC g (3, k) ≤ 600 := by rcases hg.2.1 (3, k) with h | h <;> omega
    refine kj_aload X dX1_line_67 rfl (by first | exact ⟨some _, rfl⟩ | exact ⟨none, rfl⟩ | exact ⟨_, rfl⟩) ?_
    refine kj_getN X kc_X4 0 (by decide) q515 rfl dX1_line_69 (fun H h => h.own (kc_2 hk)) rfl ?_
    refine kj_iload_n X dX1_line_72 rfl rfl ?_
    refine kj_aload X dX1_line_73 rfl (by first | exact ⟨some _, rfl⟩ | exact ⟨none, rfl⟩ | exact ⟨_, rfl⟩) ?_
    refine kj_callF X 2 (ct_J2_add_3 X.F hg.1 (kc_3 hk) (k := m) (e := gA g (20, q)) (by dsimp only; omega) hob hc6) q716 q719 q721 q46 q723 q718 q717 q722 q720 q148 ⟨by decide, by decide, by decide +kernel⟩ dX1_line_75 rfl rfl (by first | exact Nat.le_of_ble_eq_true rfl | simp [kr_cat, Value.category]) ⟨Nat.le_of_ble_eq_true rfl, Nat.le_of_ble_eq_true rfl⟩ ⟨by dsimp only; omega, by dsimp only; omega⟩ kc_J2.1 (fun H h => h.list (kc_3 hk)) (fun E => kjx_no) (fun v_75 => ?_)
    refine kj_and (fun e_75 => ?_)
    subst e_75
    refine kj_P (P' := fun H => kr_Hx G [3] g (oLine0 S k m q t n) Z H) (fun H h => ?_) ?_
    · rw [hg.2.2] at h
      exact kr_S.newLine hV.2.1 hk (by omega) hq0 ⟨hnum.1, hnum.2.1⟩ hg (Or.inr (g3 hfit.1)) hZ hq h
    refine kj_open (fun g2 hg2 => ?_)
    have e2 : gA g2 (2, k) = gA g (2, k) := (hg2.1 (2, k) (by show (2 : Nat) ∉ [3]; decide)).1
    have hI2 := oLine0_I3 (n := n) (q := q) hV.2.1 (show m ≤ (sL S 0 k).length by omega) hq0 ⟨hnum.1, hnum.2.1⟩
    have hl0 : sL (oLine0 S k m q t n) 0 k = (sL S 0 k).insertIdx m q := by rw [oLine0_L, if_pos ⟨rfl, rfl⟩]
    have hln : ((sL S 0 k).insertIdx m q).length = (sL S 0 k).length + 1 := List.length_insertIdx_of_le_length (by omega) ..
    have hkT : k < sN (oLine0 S k m q t n) 0 0 := hk
    have eT : oAddLine S k m q t n = uL (oLine0 S k m q t n) 1 k (sL (oLine0 S k m q t n) 0 k) := rfl
    rw [← e2]
    refine kj_aload X dX1_line_80 rfl (by first | exact ⟨some _, rfl⟩ | exact ⟨none, rfl⟩ | exact ⟨_, rfl⟩) ?_
    refine kj_callV X 0 (ct_X4_change X.F hg2.2 hkT hI2 (by rw [hl0, hln]; omega) hZ) (lw_V q962 q963 q964 q57 q965) ⟨rfl, by decide, by decide, by decide +kernel⟩ dX1_line_82 rfl rfl (by first | exact Nat.le_of_ble_eq_true rfl | simp [kr_cat, Value.category]) ⟨Nat.le_of_ble_eq_true rfl, Nat.le_of_ble_eq_true rfl⟩ ⟨by dsimp only; omega, by dsimp only; omega⟩ kc_X4.1 (fun H h => h.rc (kc_2 hkT)) (fun E => kjx_no) (fun v_82 => ?_)
    refine kj_and (fun e_82 => ?_)
    subst e_82
    refine kj_open (fun g3 hg3 => ?_)
    have e3 : gA g3 (2, k) = gA g2 (2, k) := (hg3.1 (2, k) (by show (2 : Nat) ∉ [4]; decide)).1
    rw [← e3, ← eT]
    have hkT2 : k < sN (oAddLine S k m q t n) 0 0 := hk
    refine kj_aload X dX1_line_85 rfl (by first | exact ⟨some _, rfl⟩ | exact ⟨none, rfl⟩ | exact ⟨_, rfl⟩) ?_
    refine kj_getN X kc_X4 0 (by decide) q515 rfl dX1_line_87 (fun H h => h.own (kc_2 hkT2)) rfl ?_
    refine kj_callF X 0 (ct_J2_size X.F (kc_3 hkT2)) q478 q481 q483 q46 q485 q480 q479 q484 q482 q148 ⟨by decide, by decide, by decide +kernel⟩ dX1_line_90 rfl rfl (by first | exact Nat.le_of_ble_eq_true rfl | simp [kr_cat, Value.category]) ⟨Nat.le_of_ble_eq_true rfl, Nat.le_of_ble_eq_true rfl⟩ ⟨by dsimp only; omega, by dsimp only; omega⟩ kc_J2.1 (fun H h => h.list (kc_3 hkT2)) (fun E => kjx_no) (fun v_90 => ?_)
    refine kj_and (fun e_90 => ?_)
    subst e_90
    have hl2 : (sL (oAddLine S k m q t n) 0 k).length = (sL S 0 k).length + 1 := by rw [oAddLine_L, if_pos ⟨Or.inl rfl, rfl⟩, hln]
    rw [show (sL (oAddLine S k m q t n) 0 k, gM g3 (3, k), gC g3 (3, k)).1.length = (sL S 0 k).length + 1 from hl2]
    exact kj_iret X dX1_line_95 (by omega) (by omega) (fun H h => ⟨(k, m, q, t), ⟨rfl, hk, rfl, by dsimp only; omega, rfl, hlt, hq0, rfl⟩, kr_Hx.of h (hg2.1.tr hg3.1 (by simp) (by simp)) hg3.2⟩)
end
