/-! A NEW PLAYER -/
set_option maxRecDepth 100000
/-- the player of kiosk k begins list i -/
def oBorn (S : kr_St) (k i : Nat) : kr_St := oFrame (oDepth (uN (uN (uN (uN (uI (uI S 1 k 0) 2 k 0) 3 k 1) 15 k 1) 4 k 0) 8 k 0) k 1) (4 * k + 0) i
section
variable {S : kr_St} {k i : Nat}
theorem oBorn_N3 (b : Nat) : sN (oBorn S k i) 3 b = if b = k then 1 else sN S 3 b := by unfold oBorn oFrame oDepth; simp [sN_uN, sN_uI, sN_uL]
theorem oBorn_N15 (b : Nat) : sN (oBorn S k i) 15 b = if b = k then 1 else sN S 15 b := by unfold oBorn oFrame oDepth; simp [sN_uN, sN_uI, sN_uL]
theorem oBorn_N4 (b : Nat) : sN (oBorn S k i) 4 b = if b = k then 0 else sN S 4 b := by unfold oBorn oFrame oDepth; simp [sN_uN, sN_uI, sN_uL]
theorem oBorn_N8 (b : Nat) : sN (oBorn S k i) 8 b = if b = k then 0 else sN S 8 b := by unfold oBorn oFrame oDepth; simp [sN_uN, sN_uI, sN_uL]
theorem oBorn_N5 (b : Nat) : sN (oBorn S k i) 5 b = if b = k then 1 else sN S 5 b := by unfold oBorn oFrame oDepth; simp [sN_uN, sN_uI, sN_uL]
theorem oBorn_N11 (b : Nat) : sN (oBorn S k i) 11 b = if b = 4 * k then i else sN S 11 b := by unfold oBorn oFrame oDepth; simp [sN_uN, sN_uI, sN_uL]
theorem oBorn_N (a b : Nat) (h3 : a ≠ 3) (h4 : a ≠ 4) (h5 : a ≠ 5) (h8 : a ≠ 8) (h11 : a ≠ 11) (h15 : a ≠ 15) : sN (oBorn S k i) a b = sN S a b := by unfold oBorn oFrame oDepth; simp [sN_uN, sN_uI, sN_uL, h3, h4, h5, h8, h11, h15]
theorem oBorn_I1 (b : Nat) : sI (oBorn S k i) 1 b = if b = k then 0 else sI S 1 b := by unfold oBorn oFrame oDepth; simp [sI_uN, sI_uI, sI_uL]
theorem oBorn_I2 (b : Nat) : sI (oBorn S k i) 2 b = if b = k then 0 else sI S 2 b := by unfold oBorn oFrame oDepth; simp [sI_uN, sI_uI, sI_uL]
theorem oBorn_I5 (b : Nat) : sI (oBorn S k i) 5 b = if b = 4 * k then 0 else sI S 5 b := by unfold oBorn oFrame oDepth; simp [sI_uN, sI_uI, sI_uL]
theorem oBorn_I (a b : Nat) (h1 : a ≠ 1) (h2 : a ≠ 2) (h5 : a ≠ 5) : sI (oBorn S k i) a b = sI S a b := by unfold oBorn oFrame oDepth; simp [sI_uN, sI_uI, sI_uL, h1, h2, h5]
theorem oBorn_L4 (b : Nat) : sL (oBorn S k i) 4 b = if b = 4 * k then sL S 1 i else sL S 4 b := by unfold oBorn oFrame oDepth; simp [sL_uN, sL_uI, sL_uL]
theorem oBorn_L (a b : Nat) (h4 : a ≠ 4) : sL (oBorn S k i) a b = sL S a b := by unfold oBorn oFrame oDepth; simp [sL_uN, sL_uI, sL_uL, h4]
theorem oBorn_D : sD (oBorn S k i) = sD S := rfl
end
theorem oBorn_V {S : kr_St} {k i : Nat} (h : kr_V S) (hk : k < sN S 1 0) (hno : sN S 15 k ≠ 1) (hi : i < sN S 0 0) : kr_V (oBorn S k i) := by
  obtain ⟨⟨v1, v2, v3, v4⟩, ⟨i1, i2, i3, i4⟩, h3, h4, h5, h6, h7⟩ := h
  have e0 : sN (oBorn S k i) 0 0 = sN S 0 0 := oBorn_N 0 0 (by decide) (by decide) (by decide) (by decide) (by decide) (by decide)
  have e1 : sN (oBorn S k i) 1 0 = sN S 1 0 := oBorn_N 1 0 (by decide) (by decide) (by decide) (by decide) (by decide) (by decide)
  have e2 : sN (oBorn S k i) 2 0 = sN S 2 0 := oBorn_N 2 0 (by decide) (by decide) (by decide) (by decide) (by decide) (by decide)
  have e14 : sN (oBorn S k i) 14 0 = sN S 14 0 := oBorn_N 14 0 (by decide) (by decide) (by decide) (by decide) (by decide) (by decide)
  have e12 : ∀ q, sN (oBorn S k i) 12 q = sN S 12 q := fun q => oBorn_N 12 q (by decide) (by decide) (by decide) (by decide) (by decide) (by decide)
  have up15 : ∀ p, sN S 15 p = 1 → sN (oBorn S k i) 15 p = 1 := fun p hp => by
    rw [oBorn_N15]
    split
    · rfl
    · exact hp
  refine ⟨⟨by rw [e0]; exact v1, by rw [e1]; exact v2, by rw [e2]; exact v3, by rw [e14]; exact v4⟩, ⟨fun j hj p hp => ?_, fun d hd p hp => ?_, fun j hj q hq => ?_, fun p hp => ?_⟩, fun j hj => ?_, fun q hq => ?_, fun p hp => ?_, fun d hd => ?_, fun v hv => ?_⟩
  · rw [e1] at hj
    rw [oBorn_L 2 j (by decide)] at hp
    exact up15 p (i1 j hj p hp)
  · rw [e14] at hd
    rw [oBorn_L 3 d (by decide)] at hp
    exact up15 p (i2 d hd p hp)
  · rw [e0] at hj
    rw [oBorn_L 0 j (by decide)] at hq
    rw [e12]
    exact i3 j hj q hq
  · rw [oBorn_N15] at hp
    rw [oBorn_N5]
    split
    · decide
    · rename_i e
      rw [if_neg e] at hp
      exact i4 p hp
  · rw [e0] at hj
    rw [oBorn_L 0 j (by decide), oBorn_L 1 j (by decide)]
    exact h3 j hj
  · rw [e12] at hq ⊢
    rw [oBorn_I 6 q (by decide) (by decide) (by decide)]
    exact h4 q hq
  · have eq : nQueue (oBorn S k i) p = nQueue S p := by
      unfold nQueue
      rw [e14]
      exact kr_countP_same (fun e => by unfold fQueue; rw [oBorn_L 3 e (by decide)]) _
    by_cases e : p = k
    · subst e
      have hq0 : nQueue S p = 0 := by
        unfold nQueue
        refine List.countP_eq_zero.mpr (fun d hd => ?_)
        unfold fQueue
        intro z
        exact hno (i2 d (List.mem_range.mp hd) p (of_decide_eq_true z))
      refine ⟨by rw [e1]; exact hk, by rw [oBorn_N5, if_pos rfl]; exact ⟨by decide, by decide⟩, ⟨by rw [oBorn_N8, if_pos rfl]; decide, by rw [eq, hq0, oBorn_N8, if_pos rfl]⟩, by rw [oBorn_N4, if_pos rfl]; exact Nat.zero_le _, fun d hd => ?_⟩
      rw [oBorn_N5, if_pos rfl] at hd
      obtain rfl : d = 0 := by omega
      obtain ⟨l1, l2⟩ := h3 i hi
      rw [Nat.add_zero]
      refine ⟨by rw [oBorn_N11, if_pos rfl, e0]; exact hi, by rw [oBorn_L4, if_pos rfl, l2]; exact l1, fun q hq => ?_, 0, by decide, by rw [oBorn_I5, if_pos rfl]; rfl⟩
      rw [oBorn_L4, if_pos rfl, l2] at hq
      rw [e12]
      exact i3 i hi q hq
    · rw [oBorn_N15, if_neg e] at hp
      obtain ⟨a1, a2, a3, a5, a6⟩ := h5 p hp
      refine ⟨by rw [e1]; exact a1, by rw [oBorn_N5, if_neg e]; exact a2, by rw [eq, oBorn_N8, if_neg e]; exact a3, by rw [oBorn_N4, if_neg e, e1]; exact a5, fun d hd => ?_⟩
      rw [oBorn_N5, if_neg e] at hd
      have hd4 : d < 4 := Nat.lt_of_lt_of_le hd a2.2
      obtain ⟨f1, f2, f3, m, f4, f5⟩ := a6 d hd
      have hne : 4 * p + d ≠ 4 * k := by omega
      refine ⟨by rw [oBorn_N11, if_neg hne, e0]; exact f1, by rw [oBorn_L4, if_neg hne]; exact f2, fun q hq => ?_, m, f4, by rw [oBorn_I5, if_neg hne]; exact f5⟩
      rw [oBorn_L4, if_neg hne] at hq
      rw [e12]
      exact f3 q hq
  · obtain ⟨b1, b2⟩ := h6 d hd
    rw [oBorn_L 3 d (by decide)]
    refine ⟨fun j hj => ?_, b2⟩
    rw [oBorn_N 9 d (by decide) (by decide) (by decide) (by decide) (by decide) (by decide)] at hj
    exact up15 j (b1 j hj)
  · rw [e2] at hv
    obtain ⟨c1, c2⟩ := h7 v hv
    refine ⟨by rw [oBorn_N 10 v (by decide) (by decide) (by decide) (by decide) (by decide) (by decide), e1]; exact c1, fun s hs => ?_⟩
    rw [oBorn_N (v + 100) s (by omega) (by omega) (by omega) (by omega) (by omega) (by omega)]
    exact c2 s hs
theorem oBorn_Pl {S : kr_St} {k i : Nat} (h : kr_Pl S) (hk : k < sN S 1 0) (hno : sN S 15 k ≠ 1) : kr_Pl (oBorn S k i) := by
  obtain ⟨⟨h1, h2, h3⟩, h4⟩ := h
  have e1 : sN (oBorn S k i) 1 0 = sN S 1 0 := oBorn_N 1 0 (by decide) (by decide) (by decide) (by decide) (by decide) (by decide)
  have e6 : ∀ q, sN (oBorn S k i) 6 q = sN S 6 q := fun q => oBorn_N 6 q (by decide) (by decide) (by decide) (by decide) (by decide) (by decide)
  have e7 : ∀ q, sN (oBorn S k i) 7 q = sN S 7 q := fun q => oBorn_N 7 q (by decide) (by decide) (by decide) (by decide) (by decide) (by decide)
  refine ⟨⟨fun p => ?_, fun j hj => ?_, fun j hj => ?_⟩, fun j hj => ?_⟩
  · rw [oBorn_N15, oBorn_N3, e1]
    by_cases e : p = k
    · rw [if_pos e, if_pos e, e]
      exact ⟨fun _ => ⟨hk, rfl⟩, fun _ => rfl⟩
    · rw [if_neg e, if_neg e]
      exact h1 p
  · rw [e1] at hj
    rw [oBorn_N3, e6, e7]
    refine ⟨?_, (h2 j hj).2⟩
    split
    · decide
    · exact (h2 j hj).1
  · rw [e1] at hj
    rw [oBorn_L 2 j (by decide)]
    refine ⟨(h3 j hj).1, fun p => ?_⟩
    rw [(h3 j hj).2, oBorn_N15, oBorn_N4]
    by_cases e : p = k
    · rw [if_pos e, if_pos e, e]
      exact ⟨fun z => absurd z.1 hno, fun z => by cases z.2⟩
    · rw [if_neg e, if_neg e]
  · rw [e1] at hj
    rw [e7, oBorn_L 2 j (by decide), oBorn_I 3 j (by decide) (by decide) (by decide)]
    exact h4 j hj
section
variable {G : kr_G} {l : Launch} {g g' : kr_Gh} {S S' : kr_St} {Z Z' : kr_Ro → Option kr_AE}
theorem kr_S.newPlayer {H : Heap} {k i q q1 q2 q3 : Nat} (hV : kr_V S) (hk : k < sN S 1 0) (hno : sN S 15 k ≠ 1) (hi : i < sN S 0 0) (hg : kr_gok g) (hZ : ∀ r z, Z r ≠ some (.inr z)) (hq : Z (20, q) = none) (hq1 : Z (20, q1) = none) (hq2 : Z (20, q2) = none) (hq3 : Z (20, q3) = none) (n1 : q1 ≠ q) (n2 : q2 ≠ q) (n3 : q3 ≠ q) (n4 : q2 ≠ q1) (n5 : q3 ≠ q1) (n6 : q3 ≠ q2)
    (h : kr_S G (gA g) (kr_up (kr_cells G g S (kr_up (kr_up (kr_up (kr_up Z (20, q3) (kr_al G (sL S 1 i))) (20, q2) (kr_o 4 [.ref (gA g (2, i)), .ref q3, .int 0])) (20, q1) (some (.inr ([q2], 1, 10)))) (20, q) (kr_o 5 [.int (nI k), .ref q1, .null, .int 0, .int 0, .int 0]))) (5, k) (kr_o 6 [.int (nI k), .ref (gA g (6, k)), .ref q, .int (nI (sN S 6 k)), .int (nI (sN S 7 k)), .int (sI S 3 k), .int (sI S 4 k)])) H) : kr_Hx G [7, 8, 9, 10] g (oBorn S k i) Z H := by
  generalize hg2 : gL (gNew g [((7, k), q), ((8, k), q1), ((9, 4 * k), q2), ((10, 4 * k), q3)]) (8, k) 1 10 = g2
  have hV2 : kr_V (oBorn S k i) := oBorn_V hV hk hno hi
  have hgs : kr_gsm [7, 8, 9, 10] g g2 := by
    rw [← hg2]
    exact (kr_gsm_new (K := [7, 8, 9, 10]) (by simp)).tr (kr_gsm_gL (r := (8, k))) (fun _ z => z) (by simp)
  have hgk : kr_gok g2 := by
    rw [← hg2]
    exact kr_gok_gL (kr_gok_new hg (by simp)) (Or.inr ⟨by decide, by decide⟩)
  have eA1 : ∀ c x : Nat, c < 7 ∨ 10 < c → gA g2 (c, x) = gA g (c, x) := fun c x c2 => by
    rw [← hg2]
    exact gNew_n (by simp; omega)
  have eA7 : ∀ x : Nat, x ≠ k → gA g2 (7, x) = gA g (7, x) ∧ gA g2 (8, x) = gA g (8, x) := fun x hx => by
    rw [← hg2]
    exact ⟨gNew_n (by simp; omega), gNew_n (by simp; omega)⟩
  have eA9 : ∀ x : Nat, x ≠ 4 * k → gA g2 (9, x) = gA g (9, x) ∧ gA g2 (10, x) = gA g (10, x) := fun x hx => by
    rw [← hg2]
    exact ⟨gNew_n (by simp; omega), gNew_n (by simp; omega)⟩
  have d34 : ∀ {a b : Nat} (x y : Nat), a ≠ b → ((a, x) : kr_Ro) ≠ (b, y) := fun x y h z => h (Prod.mk.inj z).1
  have a7 : gA g2 (7, k) = q := by rw [← hg2]; exact gNew_s
  have a8 : gA g2 (8, k) = q1 := by rw [← hg2]; exact (gNew_t (d34 _ _ (by decide))).trans gNew_s
  have a9 : gA g2 (9, 4 * k) = q2 := by rw [← hg2]; exact (gNew_t (d34 _ _ (by decide))).trans ((gNew_t (d34 _ _ (by decide))).trans gNew_s)
  have a10 : gA g2 (10, 4 * k) = q3 := by rw [← hg2]; exact (gNew_t (d34 _ _ (by decide))).trans ((gNew_t (d34 _ _ (by decide))).trans ((gNew_t (d34 _ _ (by decide))).trans gNew_s))
  have eM : ∀ c x : Nat, c ≠ 8 → gM g2 (c, x) = gM g (c, x) ∧ gC g2 (c, x) = gC g (c, x) := fun c x h1 => by
    rw [← hg2]
    simp [gL, gNew, kr_up, gM, gC, h1]
  have eM8 : ∀ x : Nat, x ≠ k → gM g2 (8, x) = gM g (8, x) := fun x h1 => by
    rw [← hg2]
    simp [gL, gNew, kr_up, gM, h1]
  have m8 : gM g2 (8, k) = 1 := by
    rw [← hg2]
    simp [gL, gNew, kr_up, gM]
  have eN : ∀ a b, a ≠ 3 → a ≠ 4 → a ≠ 5 → a ≠ 8 → a ≠ 11 → a ≠ 15 → sN (oBorn S k i) a b = sN S a b := fun a b => oBorn_N a b
  have hp2 : sN (oBorn S k i) 15 k = 1 := by rw [oBorn_N15, if_pos rfl]
  have h5k : 0 < sN (oBorn S k i) 5 k := by rw [oBorn_N5, if_pos rfl]; decide
  refine kr_Hx.of (kr_S.ren h [((7, k), q), ((8, k), q1), ((9, 4 * k), q2), ((10, 4 * k), q3)] ?_ ?_ (fun r hr c hc => ?_) ?_ (hV2.2.1.elem hgk.1 hZ)) hgs hgk
  · simp only [List.mem_cons, List.not_mem_nil, or_false]
    rintro e (rfl | rfl | rfl | rfl) e' (rfl | rfl | rfl | rfl) z <;> first | rfl | (exact absurd z n1) | (exact absurd z.symm n1) | (exact absurd z n2) | (exact absurd z.symm n2) | (exact absurd z n3) | (exact absurd z.symm n3) | (exact absurd z n4) | (exact absurd z.symm n4) | (exact absurd z n5) | (exact absurd z.symm n5) | (exact absurd z n6) | (exact absurd z.symm n6)
  · simp only [List.mem_cons, List.not_mem_nil, or_false]
    rintro e (rfl | rfl | rfl | rfl)
    · refine ⟨?_, (hg.2.2 q).trans a7.symm⟩
      rw [kr_up_n (d34 _ _ (by decide)), kc_Z2, kr_up_s, kc_7 hp2, a8, oBorn_N4, if_pos rfl, oBorn_I1, if_pos rfl, oBorn_I2, if_pos rfl, oBorn_N8, if_pos rfl]
      rfl
    · refine ⟨?_, (hg.2.2 q1).trans a8.symm⟩
      rw [kr_up_n (d34 _ _ (by decide)), kc_Z2, kr_up_n (kr_ne20 n1), kr_up_s, kc_8 hp2, oBorn_N5, if_pos rfl, m8]
      show _ = (some (.inr ([gA g2 (9, 4 * k + 0)], 1, 10)) : Option kr_AE)
      rw [Nat.add_zero, a9]
    · refine ⟨?_, (hg.2.2 q2).trans a9.symm⟩
      have k9 := kc_9 (G := G) (g := g2) (Z := Z) (d := 0) hp2 (by decide) h5k
      rw [Nat.add_zero] at k9
      rw [kr_up_n (d34 _ _ (by decide)), kc_Z2, kr_up_n (kr_ne20 n2), kr_up_n (kr_ne20 n4), kr_up_s, k9, oBorn_N11, if_pos rfl, a10, oBorn_I5, if_pos rfl, eA1 2 i (by omega)]
    · refine ⟨?_, (hg.2.2 q3).trans a10.symm⟩
      have k10 := kc_10 (G := G) (g := g2) (Z := Z) (d := 0) hp2 (by decide) h5k
      rw [Nat.add_zero] at k10
      rw [kr_up_n (d34 _ _ (by decide)), kc_Z2, kr_up_n (kr_ne20 n3), kr_up_n (kr_ne20 n5), kr_up_n (kr_ne20 n6), kr_up_s, k10, oBorn_L4, if_pos rfl]
  · simp only [List.mem_cons, List.not_mem_nil, or_false, forall_eq_or_imp, forall_eq] at hr
    obtain ⟨r7, r8, r9, r10⟩ := hr
    by_cases r5 : r = (5, k)
    · subst r5
      rw [kc_5 (by rw [eN 1 0 (by decide) (by decide) (by decide) (by decide) (by decide) (by decide)]; exact hk)] at hc
      rw [kr_up_s, ← hc, oBorn_N3, if_pos rfl, kr_ow_1 rfl, a7, eA1 6 k (by omega), eN 6 k (by decide) (by decide) (by decide) (by decide) (by decide) (by decide), eN 7 k (by decide) (by decide) (by decide) (by decide) (by decide) (by decide), oBorn_I 3 k (by decide) (by decide) (by decide), oBorn_I 4 k (by decide) (by decide) (by decide)]
      exact ⟨rfl, (eA1 5 k (by omega)).symm⟩
    rw [kr_up_n r5]
    obtain ⟨a, b⟩ := r
    by_cases h18 : 18 ≤ a
    · rw [kc_Z (r := (a, b)) h18] at hc ⊢
      refine ⟨?_, (eA1 a b (by omega)).symm⟩
      have nz : ∀ y, Z (20, y) = none → (a, b) ≠ (20, y) := fun y hy z => by rw [z, hy] at hc; cases hc
      rw [kr_up_n (nz q hq), kr_up_n (nz q1 hq1), kr_up_n (nz q2 hq2), kr_up_n (nz q3 hq3)]
      exact hc
    have hb5 : a = 5 → b ≠ k := by
      rintro rfl z
      exact r5 (by rw [z])
    have hb7 : a = 7 → b ≠ k := by
      rintro rfl z
      exact r7 (by rw [z])
    have hb8 : a = 8 → b ≠ k := by
      rintro rfl z
      exact r8 (by rw [z])
    have hb9 : a = 9 → b ≠ 4 * k := by
      rintro rfl z
      exact r9 (by rw [z])
    have hb10 : a = 10 → b ≠ 4 * k := by
      rintro rfl z
      exact r10 (by rw [z])
    refine ⟨?_, ?_⟩
    rotate_left
    · by_cases e7 : a = 7
      · subst e7
        exact (eA7 b (hb7 rfl)).1.symm
      by_cases e8 : a = 8
      · subst e8
        exact (eA7 b (hb8 rfl)).2.symm
      by_cases e9 : a = 9
      · subst e9
        exact (eA9 b (hb9 rfl)).1.symm
      by_cases e10 : a = 10
      · subst e10
        exact (eA9 b (hb10 rfl)).2.symm
      exact (eA1 a b (by omega)).symm
    clear r5 r7 r8 r9 r10
    have mcg : ∀ xs : List Nat, (∀ p ∈ xs, sN S 15 p = 1) → xs.map (fun i => gA g2 (7, i)) = xs.map (fun i => gA g (7, i)) := fun xs hx => List.map_congr_left fun p hp => (eA7 p (fun z => hno (by rw [← z]; exact hx p hp))).1
    rcases (show a = 0 ∨ a = 1 ∨ a = 2 ∨ a = 3 ∨ a = 4 ∨ a = 5 ∨ a = 6 ∨ a = 7 ∨ a = 8 ∨ a = 9 ∨ a = 10 ∨ a = 11 ∨ a = 12 ∨ a = 13 ∨ a = 14 ∨ a = 15 ∨ a = 16 ∨ a = 17 by omega) with rfl | rfl | rfl | rfl | rfl | rfl | rfl | rfl | rfl | rfl | rfl | rfl | rfl | rfl | rfl | rfl | rfl | rfl
    case inr.inr.inr.inr.inr.inl =>
      have hb := hb5 rfl
      by_cases hh : b < sN (oBorn S k i) 1 0
      · rw [kc_5 hh] at hc
        rw [eN 1 0 (by decide) (by decide) (by decide) (by decide) (by decide) (by decide)] at hh
        rw [kc_5 hh, ← hc, oBorn_N3, if_neg hb, eA1 6 b (by omega), eN 6 b (by decide) (by decide) (by decide) (by decide) (by decide) (by decide), eN 7 b (by decide) (by decide) (by decide) (by decide) (by decide) (by decide), oBorn_I 3 b (by decide) (by decide) (by decide), oBorn_I 4 b (by decide) (by decide) (by decide)]
        unfold kr_ow
        rw [(eA7 b hb).1]
      · replace hc : (if b < sN (oBorn S k i) 1 0 then _ else none) = some c := hc
        rw [if_neg hh] at hc
        cases hc
    case inr.inr.inr.inr.inr.inr.inl =>
      by_cases hh : b < sN (oBorn S k i) 1 0
      · rw [kc_6 hh] at hc
        rw [eN 1 0 (by decide) (by decide) (by decide) (by decide) (by decide) (by decide)] at hh
        rw [kc_6 hh, ← hc, oBorn_L 2 b (by decide), mcg _ (hV.2.1.1 b hh)]
        unfold kr_li
        rw [(eM 6 b (by decide)).1, (eM 6 b (by decide)).2]
      · replace hc : (if b < sN (oBorn S k i) 1 0 then _ else none) = some c := hc
        rw [if_neg hh] at hc
        cases hc
    case inr.inr.inr.inr.inr.inr.inr.inl =>
      have hb := hb7 rfl
      by_cases hh : sN (oBorn S k i) 15 b = 1
      · rw [kc_7 hh] at hc
        rw [oBorn_N15, if_neg hb] at hh
        rw [kc_7 hh, ← hc, (eA7 b hb).2, oBorn_N4, if_neg hb, oBorn_N8, if_neg hb, oBorn_I1, if_neg hb, oBorn_I2, if_neg hb, show (fun i => gA g2 (5, i)) = (fun i => gA g (5, i)) from funext fun i => eA1 5 i (by omega)]
      · replace hc : (if sN (oBorn S k i) 15 b = 1 then _ else none) = some c := hc
        rw [if_neg hh] at hc
        cases hc
    case inr.inr.inr.inr.inr.inr.inr.inr.inl =>
      have hb := hb8 rfl
      by_cases hh : sN (oBorn S k i) 15 b = 1
      · rw [kc_8 hh] at hc
        rw [oBorn_N15, if_neg hb] at hh
        have h4 := (hV.2.2.2.2.1 b hh).2.1.2
        rw [kc_8 hh, ← hc, oBorn_N5, if_neg hb, eM8 b hb]
        have : (List.range (sN S 5 b)).map (fun d => gA g2 (9, 4 * b + d)) = (List.range (sN S 5 b)).map (fun d => gA g (9, 4 * b + d)) := List.map_congr_left fun d hd => (eA9 _ (by have := List.mem_range.mp hd; omega)).1
        rw [this]
      · replace hc : (if sN (oBorn S k i) 15 b = 1 then _ else none) = some c := hc
        rw [if_neg hh] at hc
        cases hc
    case inr.inr.inr.inr.inr.inr.inr.inr.inr.inl =>
      have hb := hb9 rfl
      replace hc : (if sN (oBorn S k i) 15 (b / 4) = 1 ∧ b % 4 < sN (oBorn S k i) 5 (b / 4) then kr_o 4 [.ref (gA g2 (2, sN (oBorn S k i) 11 b)), .ref (gA g2 (10, b)), .int (sI (oBorn S k i) 5 b)] else none) = some c := hc
      show (if sN S 15 (b / 4) = 1 ∧ b % 4 < sN S 5 (b / 4) then kr_o 4 [.ref (gA g (2, sN S 11 b)), .ref (gA g (10, b)), .int (sI S 5 b)] else none) = some c
      rw [oBorn_N15, oBorn_N5, oBorn_N11, if_neg hb, oBorn_I5, if_neg hb, (eA9 b hb).2, eA1 2 _ (by omega)] at hc
      by_cases e : b / 4 = k
      · rw [if_pos e, if_pos e, if_neg (by omega)] at hc
        cases hc
      · rw [if_neg e, if_neg e] at hc
        exact hc
    case inr.inr.inr.inr.inr.inr.inr.inr.inr.inr.inl =>
      have hb := hb10 rfl
      replace hc : (if sN (oBorn S k i) 15 (b / 4) = 1 ∧ b % 4 < sN (oBorn S k i) 5 (b / 4) then kr_al G (sL (oBorn S k i) 4 b) else none) = some c := hc
      show (if sN S 15 (b / 4) = 1 ∧ b % 4 < sN S 5 (b / 4) then kr_al G (sL S 4 b) else none) = some c
      rw [oBorn_N15, oBorn_N5, oBorn_L4, if_neg hb] at hc
      by_cases e : b / 4 = k
      · rw [if_pos e, if_pos e, if_neg (by omega)] at hc
        cases hc
      · rw [if_neg e, if_neg e] at hc
        exact hc
    case inr.inr.inr.inr.inr.inr.inr.inr.inr.inr.inr.inl =>
      by_cases hh : b < sN (oBorn S k i) 14 0
      · rw [kc_11 hh] at hc
        rw [eN 14 0 (by decide) (by decide) (by decide) (by decide) (by decide) (by decide)] at hh
        rw [kc_11 hh, ← hc, eA1 12 b (by omega), eN 9 b (by decide) (by decide) (by decide) (by decide) (by decide) (by decide)]
        have hho := (hV.2.2.2.2.2.1 b (by rw [← hV.1.2.2.2]; exact hh)).1
        cases e : sN S 9 b with
        | zero => rfl
        | succ j =>
          have hj := hho j e
          show kr_o 2 [_, .ref (gA g (7, j))] = kr_o 2 [_, .ref (gA g2 (7, j))]
          rw [(eA7 j (fun z => hno (by rw [← z]; exact hj))).1]
      · replace hc : (if b < sN (oBorn S k i) 14 0 then _ else none) = some c := hc
        rw [if_neg hh] at hc
        cases hc
    case inr.inr.inr.inr.inr.inr.inr.inr.inr.inr.inr.inr.inl =>
      by_cases hh : b < sN (oBorn S k i) 14 0
      · rw [kc_12 hh] at hc
        rw [eN 14 0 (by decide) (by decide) (by decide) (by decide) (by decide) (by decide)] at hh
        rw [kc_12 hh, ← hc, oBorn_L 3 b (by decide), mcg _ (hV.2.1.2.1 b hh)]
        unfold kr_li
        rw [(eM 12 b (by decide)).1, (eM 12 b (by decide)).2]
      · replace hc : (if b < sN (oBorn S k i) 14 0 then _ else none) = some c := hc
        rw [if_neg hh] at hc
        cases hc
    case inr.inr.inr.inr.inr.inr.inr.inr.inr.inr.inr.inr.inr.inr.inr.inr.inl =>
      rw [← hc]
      simp only [kr_cells]
      simp only [eN 2 0 (by decide) (by decide) (by decide) (by decide) (by decide) (by decide), eN (b + 100) _ (by omega) (by omega) (by omega) (by omega) (by omega) (by omega)]
    all_goals (rw [← hc]; simp only [kr_cells])
    all_goals (simp [kr_li, eA1, eN, eM, oBorn_I, oBorn_L, oBorn_D]; done)
  · simp only [List.mem_cons, List.not_mem_nil, or_false]
    rintro e (rfl | rfl | rfl | rfl) <;> rw [kc_Z2] <;> assumption
theorem ct_X16_init (hF : kr_F G l) (hg : kr_gok g) {q i : Nat} {n : Int32} (hi : i < sN S 0 0) (hz : Z (20, q) = kr_o 5 [.int 0, .null, .null, .int 0, .int 0, .int 0]) (hl : (sL S 1 i).length ≤ 20) (hln : ∀ b ∈ sL S 1 i, 8 ≤ sN S 12 b ∧ sN S 12 b ≤ 16) : kr_T G l yX16_init (ws_ yX16_init cX16_init 3 (Option.none : Option Jvm.ClassFile.FieldType)) 8 700 [.ref (gA g (20, q)), .int n, .ref (gA g (2, i))] (kr_S G (gA g) (kr_cells G g S Z)) 4 36 (fun v H => ∃ a : Nat × Nat × Nat, (v = none ∧ (Z (20, a.1) = none ∧ Z (20, a.2.1) = none ∧ Z (20, a.2.2) = none) ∧ a.2.1 ≠ a.1 ∧ a.2.2 ≠ a.1 ∧ a.2.2 ≠ a.2.1) ∧ kr_S G (gA g) (kr_cells G g S (kr_up (kr_up (kr_up (kr_up Z (20, a.2.2) (kr_al G (sL S 1 i))) (20, a.2.1) (kr_o 4 [.ref (gA g (2, i)), .ref a.2.2, .int 0])) (20, a.1) (some (.inr ([a.2.1], 1, 10)))) (20, q) (kr_o 5 [.int n, .ref a.1, .null, .int 0, .int 0, .int 0]))) H) kr_no := by
  refine kr_T.of (by decide +kernel) hF (by simp [Value.category]) (Nat.le_of_ble_eq_true rfl) (fun x hx X => ?_)
  refine kj_aload_n X dX16_init_0 rfl rfl (by first | exact ⟨some _, rfl⟩ | exact ⟨none, rfl⟩ | exact ⟨_, rfl⟩) ?_
  refine kj_objInit X q1108 q95 q96 dX16_init_1 (Nat.le_of_ble_eq_true rfl) (by simp [Value.category, kr_cat]) ?_
  refine kj_aload_n X dX16_init_4 rfl rfl (by first | exact ⟨some _, rfl⟩ | exact ⟨none, rfl⟩ | exact ⟨_, rfl⟩) ?_
  refine kj_new (Pn := fun q H => Z (20, q) = none ∧ kr_S G (gA g) (kr_cells G g S (kr_up Z (20, q) (kr_o 17 [.int 0, .null, .int 0]))) H) (fs := [.int 0, .null, .int 0]) X kc_J2 q1109 q98 q46 (fun j hj => by rcases (show j = 0 ∨ j = 1 ∨ j = 2 by omega) with rfl | rfl | rfl <;> rfl) dX16_init_5 (by first | omega | (dsimp only; omega)) (by first | omega | (dsimp only; omega)) (fun H H1 h ho a u => h.mk2 hg a ho u) (fun q_5 => ?_)
  refine kj_and (fun h_q_5 => ?_)
  rw [show (Value.ref q_5) = Value.ref (gA g (20, q_5)) from by rw [(hg).2.2 q_5]]
  refine kj_dup X dX16_init_8 (by first | rfl | exact kr_cat _) ?_
  have hne := kr_new20 hz (fun z => by cases z) h_q_5
  refine kj_callI X 0 (ct_J2_init X.F (i := (20, q_5)) rfl (by rw [kc_Z2, kr_up_s])) q101 q46 q1110 q100 rfl ⟨by decide, by decide, by decide +kernel⟩ dX16_init_9 rfl rfl (by first | exact Nat.le_of_ble_eq_true rfl | simp [kr_cat, Value.category]) ⟨Nat.le_of_ble_eq_true rfl, Nat.le_of_ble_eq_true rfl⟩ ⟨by dsimp only; omega, by dsimp only; omega⟩ (fun E => kjx_no) (fun v_9 => ?_)
  refine kj_and (fun e_9 => ?_)
  subst e_9
  rw [kc_up2, kr_up_up]
  have hz2 : kr_up Z (20, q_5) kr_l0 (20, q) = kr_o 5 [.int 0, .null, .null, .int 0, .int 0, .int 0] := by rw [kr_up_n (kr_ne20 (Ne.symm hne))]; exact hz
  have hz3 : ∀ e : Option kr_AE, kr_up (kr_up Z (20, q_5) kr_l0) (20, q) e (20, q) = e := fun e => kr_up_s
  refine kj_putF X kc_X16 1 (by decide) q1139 rfl rfl rfl rfl dX16_init_12 (by first | rfl | exact kr_nar _ _ | exact kr_narb _) (by first | rfl | exact kr_fitr _ _ | exact kr_fitb _) (Nat.le_of_ble_eq_true rfl) (fun H h => h.own (kc_Z2.trans hz2)) (fun H H1 h a u => h.updz (fs' := [.int 0, .ref (gA g (20, q_5)), .null, .int 0, .int 0, .int 0]) hz2 a u) ?_
  refine kj_aload_n X dX16_init_15 rfl rfl (by first | exact ⟨some _, rfl⟩ | exact ⟨none, rfl⟩ | exact ⟨_, rfl⟩) ?_
  refine kj_iload_n X dX16_init_16 rfl rfl ?_
  refine kj_putF X kc_X16 0 (by decide) q1137 rfl rfl rfl rfl dX16_init_17 (by first | rfl | exact kr_nar _ _ | exact kr_narb _) (by first | rfl | exact kr_fitr _ _ | exact kr_fitb _) (Nat.le_of_ble_eq_true rfl) (fun H h => h.own (kc_Z2.trans (hz3 _))) (fun H H1 h a u => by have h9 := h.updz (fs' := [.int n, .ref (gA g (20, q_5)), .null, .int 0, .int 0, .int 0]) (hz3 _) a u; rw [kr_up_up] at h9; exact h9) ?_
  refine kj_aload_n X dX16_init_20 rfl rfl (by first | exact ⟨some _, rfl⟩ | exact ⟨none, rfl⟩ | exact ⟨_, rfl⟩) ?_
  refine kj_get X kc_X16 1 (by decide) q1139 (Or.inl rfl) dX16_init_21 (fun H h => h.own (kc_Z2.trans (hz3 _))) rfl ?_
  rw [hg.2.2 q_5]
  generalize hZ1 : kr_up (kr_up Z (20, q_5) kr_l0) (20, q) (kr_o 5 [.int n, .ref q_5, .null, .int 0, .int 0, .int 0]) = Z1
  refine kj_new (Pn := fun q H => Z1 (20, q) = none ∧ kr_S G (gA g) (kr_cells G g S (kr_up Z1 (20, q) (kr_o 4 [.null, .null, .int 0]))) H) (fs := [.null, .null, .int 0]) X kc_X17 q1111 q1112 q85 (fun j hj => by rcases (show j = 0 ∨ j = 1 ∨ j = 2 by omega) with rfl | rfl | rfl <;> rfl) dX16_init_24 (by first | omega | (dsimp only; omega)) (by first | omega | (dsimp only; omega)) (fun H H1 h ho a u => h.mk2 hg a ho u) (fun q_24 => ?_)
  refine kj_and (fun h_q_24 => ?_)
  rw [show (Value.ref q_24) = Value.ref (gA g (20, q_24)) from by rw [(hg).2.2 q_24]]
  refine kj_dup X dX16_init_27 (by first | rfl | exact kr_cat _) ?_
  refine kj_aload_n X dX16_init_28 rfl rfl (by first | exact ⟨some _, rfl⟩ | exact ⟨none, rfl⟩ | exact ⟨_, rfl⟩) ?_
  have hzz : kr_up Z1 (20, q_24) (kr_o 4 [.null, .null, .int 0]) (20, q_24) = kr_o 4 [.null, .null, .int 0] := kr_up_s
  refine kj_callI X 1 (ct_X17_init X.F hg hi hzz hl hln) q1115 q85 q1113 q1114 rfl ⟨by decide, by decide, by decide +kernel⟩ dX16_init_29 rfl rfl (by first | exact Nat.le_of_ble_eq_true rfl | simp [kr_cat, Value.category]) ⟨Nat.le_of_ble_eq_true rfl, Nat.le_of_ble_eq_true rfl⟩ ⟨by dsimp only; omega, by dsimp only; omega⟩ (fun E => kjx_no) (fun v_29 => ?_)
  refine kj_open (fun q3 hq3 => ?_)
  obtain ⟨hv, hq3⟩ := hq3
  subst hv
  have n3 : q3 ≠ q_24 := fun z => by rw [z, kr_up_s] at hq3; cases hq3
  rw [kr_up_n (kr_ne20 n3)] at hq3
  rw [kr_up_abs (kr_ne20 n3)]
  have b2 : q_24 ≠ q ∧ q_24 ≠ q_5 ∧ Z (20, q_24) = none := by
    rw [← hZ1] at h_q_24
    have e1 : q_24 ≠ q := fun z => by rw [z, kr_up_s] at h_q_24; cases h_q_24
    rw [kr_up_n (kr_ne20 e1)] at h_q_24
    have e2 : q_24 ≠ q_5 := fun z => by rw [z, kr_up_s] at h_q_24; cases h_q_24
    rw [kr_up_n (kr_ne20 e2)] at h_q_24
    exact ⟨e1, e2, h_q_24⟩
  have b3 : q3 ≠ q ∧ q3 ≠ q_5 ∧ Z (20, q3) = none := by
    rw [← hZ1] at hq3
    have e1 : q3 ≠ q := fun z => by rw [z, kr_up_s] at hq3; cases hq3
    rw [kr_up_n (kr_ne20 e1)] at hq3
    have e2 : q3 ≠ q_5 := fun z => by rw [z, kr_up_s] at hq3; cases hq3
    rw [kr_up_n (kr_ne20 e2)] at hq3
    exact ⟨e1, e2, hq3⟩
  have hl5 : kr_cells G g S (kr_up (kr_up Z1 (20, q3) (kr_al G (sL S 1 i))) (20, q_24) (kr_o 4 [.ref (gA g (2, i)), .ref q3, .int 0])) (20, q_5) = some (.inr ([], 0, 0)) := by
    rw [kc_Z2, kr_up_n (kr_ne20 (Ne.symm b2.2.1)), kr_up_n (kr_ne20 (Ne.symm b3.2.1)), ← hZ1, kr_up_n (kr_ne20 hne), kr_up_s]
  have hob : kr_obj (gA g) (kr_cells G g S (kr_up (kr_up Z1 (20, q3) (kr_al G (sL S 1 i))) (20, q_24) (kr_o 4 [.ref (gA g (2, i)), .ref q3, .int 0]))) (gA g (20, q_24)) := ⟨(20, q_24), 4, _, (by rw [kc_Z2, kr_up_s]), rfl, (by show (20 : Nat) ≠ 40; decide), by decide⟩
  rw [← hg.2.2 q_5]
  have hgc : kr_gc ([], 0, 0) = 1 ∧ kr_gs ([], 0, 0) = 10 ∧ kr_nc ([], 0, 0) = 10 := by decide
  refine kj_callF X 1 (ct_J2_add X.F hg.1 hl5 hob (by decide)) q1136 q149 q151 q46 q153 q147 q146 q152 q150 q148 ⟨by decide, by decide, by decide +kernel⟩ dX16_init_32 rfl rfl (by first | exact Nat.le_of_ble_eq_true rfl | simp [kr_cat, Value.category]) ⟨Nat.le_of_ble_eq_true rfl, Nat.le_of_ble_eq_true rfl⟩ ⟨by dsimp only; rw [hgc.1]; omega, by dsimp only; rw [hgc.2.1]; omega⟩ kc_J2.1 (fun H h => h.list (hl5)) (fun E => kjx_no) (fun v_32 => ?_)
  refine kj_and (fun e_32 => ?_)
  subst e_32
  refine kj_pop X dX16_init_37 (by first | rfl | exact kr_cat _) ?_
  rw [hgc.1, hgc.2.1, hgc.2.2]
  have ez : kr_up (kr_up (kr_up Z1 (20, q3) (kr_al G (sL S 1 i))) (20, q_24) (kr_o 4 [.ref (gA g (2, i)), .ref q3, .int 0])) (20, q_5) (some (.inr ([q_24], 1, 10))) = kr_up (kr_up (kr_up (kr_up Z (20, q3) (kr_al G (sL S 1 i))) (20, q_24) (kr_o 4 [.ref (gA g (2, i)), .ref q3, .int 0])) (20, q_5) (some (.inr ([q_24], 1, 10)))) (20, q) (kr_o 5 [.int n, .ref q_5, .null, .int 0, .int 0, .int 0]) := by
    rw [← hZ1]
    funext r
    unfold kr_up
    by_cases r1 : r = (20, q)
    · subst r1
      rw [if_neg (kr_ne20 (Ne.symm hne)), if_neg (kr_ne20 (Ne.symm b2.1)), if_neg (kr_ne20 (Ne.symm b3.1)), if_pos rfl, if_pos rfl]
    · simp only [if_neg r1]
      by_cases r2 : r = (20, q_5)
      · rw [if_pos r2, if_pos r2]
      · simp only [if_neg r2]
  have fin : ∀ H, kr_S G (gA g) (kr_up (kr_cells G g S (kr_up (kr_up Z1 (20, q3) (kr_al G (sL S 1 i))) (20, q_24) (kr_o 4 [.ref (gA g (2, i)), .ref q3, .int 0]))) (20, q_5) (some (.inr ([] ++ [gA g (20, q_24)], 0 + 1, 10)))) H → kr_S G (gA g) (kr_cells G g S (kr_up (kr_up (kr_up (kr_up Z (20, q3) (kr_al G (sL S 1 i))) (20, q_24) (kr_o 4 [.ref (gA g (2, i)), .ref q3, .int 0])) (20, q_5) (some (.inr ([q_24], 1, 10)))) (20, q) (kr_o 5 [.int n, .ref q_5, .null, .int 0, .int 0, .int 0]))) H := fun H h => by
    rw [hg.2.2 q_24, kc_up2] at h
    rw [← ez]
    exact h
  exact kj_vret X dX16_init_38 (by omega) (by omega) (fun H h => ⟨(q_5, q_24, q3), ⟨rfl, ⟨h_q_5, b2.2.2, b3.2.2⟩, b2.2.1, b3.2.1, n3⟩, fin H h⟩)
end
