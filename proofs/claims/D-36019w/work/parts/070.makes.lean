/-! A NEW VISITOR; the walks of list, kiosk, visitor -/
set_option maxRecDepth 100000
section
variable {G : kr_G} {l : Launch} {g g' : kr_Gh} {S S' : kr_St} {Z Z' : kr_Ro → Option kr_AE}
theorem oVisitor_V {S : kr_St} (h : kr_V S) (h0 : kr_V0 S) (hn : sN S 2 0 < 10) : kr_V (uN S 2 0 (sN S 2 0 + 1)) := by
  obtain ⟨⟨v1, v2, v3, v4⟩, ⟨i1, i2, i3, i4⟩, h3, h4, h5, h6, h7⟩ := h
  have eN : ∀ a b, a ≠ 2 → sN (uN S 2 0 (sN S 2 0 + 1)) a b = sN S a b := fun a b ha => by rw [sN_uN, if_neg (fun z => ha z.1)]
  have e00 : sN (uN S 2 0 (sN S 2 0 + 1)) 2 0 = sN S 2 0 + 1 := by rw [sN_uN, if_pos ⟨rfl, rfl⟩]
  refine ⟨⟨v1, v2, by rw [e00]; omega, v4⟩, ⟨i1, i2, i3, i4⟩, h3, h4, h5, h6, fun v hv => ?_⟩
  rw [e00] at hv
  by_cases e : v < sN S 2 0
  · obtain ⟨a, b⟩ := h7 v e
    exact ⟨a, fun s hs => by rw [eN _ _ (by omega)]; exact b s hs⟩
  · obtain ⟨a, b⟩ := h0.2.2 v (by omega)
    refine ⟨by rw [eN 10 v (by decide), a]; exact Nat.zero_le _, fun s hs => ?_⟩
    rw [eN _ _ (by omega), (b s).2.2]
    decide
theorem kr_S.newVisitor {H : Heap} {n q q1 q2 q3 cap : Nat} {mc : Int32} (hV : kr_V S) (h0 : kr_V0 S) (hn : sN S 2 0 = n) (hn8 : n < 10) (hg : kr_gok g) (hc : cap = 0 ∨ (10 ≤ cap ∧ cap ≤ 600)) (hZ : ∀ r z, Z r ≠ some (.inr z)) (hq : Z (20, q) = none) (hq1 : Z (20, q1) = none) (hq2 : Z (20, q2) = none) (hq3 : Z (20, q3) = none) (n1 : q1 ≠ q) (n2 : q2 ≠ q) (n3 : q3 ≠ q) (n4 : q1 ≠ q2) (n5 : q1 ≠ q3) (n6 : q2 ≠ q3)
    (h : kr_S G (gA g) (kr_up (kr_cells G g S (kr_up (kr_up (kr_up (kr_up Z (20, q1) (kr_ai G 0 100 (fun _ => 0))) (20, q2) (kr_ai G 0 100 (fun _ => 0))) (20, q3) (kr_ai G 1 100 (fun _ => 0))) (20, q) (kr_o 7 [.ref q1, .ref q2, .ref q3, .null]))) (1, 3) (some (.inr ((List.range n).map (fun i => gA g (13, i)) ++ [q], mc, cap)))) H) : kr_Hx G [1, 13, 14, 15, 16] g (uN S 2 0 (n + 1)) Z H := by
  generalize hg2 : gL (gNew g [((13, n), q), ((14, n), q1), ((15, n), q2), ((16, n), q3)]) (1, 3) mc cap = g2
  have hV2 : kr_V (uN S 2 0 (n + 1)) := by rw [← hn]; exact oVisitor_V hV h0 (by omega)
  have hgs : kr_gsm [1, 13, 14, 15, 16] g g2 := by
    rw [← hg2]
    exact (kr_gsm_new (K := [1, 13, 14, 15, 16]) (by simp)).tr (kr_gsm_gL (r := (1, 3))) (fun _ z => z) (by simp)
  have hgk : kr_gok g2 := by
    rw [← hg2]
    exact kr_gok_gL (kr_gok_new hg (by simp)) hc
  have eA1 : ∀ c x : Nat, c < 13 ∨ 16 < c → gA g2 (c, x) = gA g (c, x) := fun c x c2 => by
    rw [← hg2]
    exact gNew_n (by simp; omega)
  have eAx : ∀ c x : Nat, x ≠ n → gA g2 (c, x) = gA g (c, x) := fun c x hx => by
    rw [← hg2]
    exact gNew_n (by simp; omega)
  have d34 : ∀ {a b : Nat} (x y : Nat), a ≠ b → ((a, x) : kr_Ro) ≠ (b, y) := fun x y h z => h (Prod.mk.inj z).1
  have a13 : gA g2 (13, n) = q := by rw [← hg2]; exact gNew_s
  have a14 : gA g2 (14, n) = q1 := by rw [← hg2]; exact (gNew_t (d34 _ _ (by decide))).trans gNew_s
  have a15 : gA g2 (15, n) = q2 := by rw [← hg2]; exact (gNew_t (d34 _ _ (by decide))).trans ((gNew_t (d34 _ _ (by decide))).trans gNew_s)
  have a16 : gA g2 (16, n) = q3 := by rw [← hg2]; exact (gNew_t (d34 _ _ (by decide))).trans ((gNew_t (d34 _ _ (by decide))).trans ((gNew_t (d34 _ _ (by decide))).trans gNew_s))
  have eM : ∀ c x : Nat, c ≠ 1 → gM g2 (c, x) = gM g (c, x) ∧ gC g2 (c, x) = gC g (c, x) := fun c x h1 => by
    rw [← hg2]
    simp [gL, gNew, kr_up, gM, gC, h1]
  have eM1 : ∀ x : Nat, x ≠ 3 → gM g2 (1, x) = gM g (1, x) ∧ gC g2 (1, x) = gC g (1, x) := fun x h1 => by
    rw [← hg2]
    simp [gL, gNew, kr_up, gM, gC, h1]
  have m1 : gM g2 (1, 3) = mc ∧ gC g2 (1, 3) = cap := by
    rw [← hg2]
    simp [gL, gNew, kr_up, gM, gC]
  have eN : ∀ a b, a ≠ 2 → sN (uN S 2 0 (n + 1)) a b = sN S a b := fun a b ha => by rw [sN_uN, if_neg (fun z => ha z.1)]
  have e00 : sN (uN S 2 0 (n + 1)) 2 0 = n + 1 := by rw [sN_uN, if_pos ⟨rfl, rfl⟩]
  obtain ⟨o1, o2⟩ := h0.2.2 n (by omega)
  refine kr_Hx.of (kr_S.ren h [((13, n), q), ((14, n), q1), ((15, n), q2), ((16, n), q3)] ?_ ?_ (fun r hr c hc => ?_) ?_ (hV2.2.1.elem hgk.1 hZ)) hgs hgk
  · simp only [List.mem_cons, List.not_mem_nil, or_false]
    rintro e (rfl | rfl | rfl | rfl) e' (rfl | rfl | rfl | rfl) z <;> first | rfl | (exact absurd z n1) | (exact absurd z.symm n1) | (exact absurd z n2) | (exact absurd z.symm n2) | (exact absurd z n3) | (exact absurd z.symm n3) | (exact absurd z n4) | (exact absurd z.symm n4) | (exact absurd z n5) | (exact absurd z.symm n5) | (exact absurd z n6) | (exact absurd z.symm n6)
  · simp only [List.mem_cons, List.not_mem_nil, or_false]
    rintro e (rfl | rfl | rfl | rfl)
    · refine ⟨?_, (hg.2.2 q).trans a13.symm⟩
      rw [kr_up_n (d34 _ _ (by decide)), kc_Z2, kr_up_s, kc_13 (by rw [e00]; omega), a14, a15, a16, eN 10 n (by decide), o1]
      rfl
    · refine ⟨?_, (hg.2.2 q1).trans a14.symm⟩
      rw [kr_up_n (d34 _ _ (by decide)), kc_Z2, kr_up_n (kr_ne20 n1), kr_up_n (kr_ne20 n5), kr_up_n (kr_ne20 n4), kr_up_s, kc_14 (by rw [e00]; omega)]
      exact congrArg (fun f => kr_ai G 0 100 f) (funext fun s => ((o2 s).1).symm)
    · refine ⟨?_, (hg.2.2 q2).trans a15.symm⟩
      rw [kr_up_n (d34 _ _ (by decide)), kc_Z2, kr_up_n (kr_ne20 n2), kr_up_n (kr_ne20 n6), kr_up_s, kc_15 (by rw [e00]; omega)]
      exact congrArg (fun f => kr_ai G 0 100 f) (funext fun s => ((o2 s).2.1).symm)
    · refine ⟨?_, (hg.2.2 q3).trans a16.symm⟩
      rw [kr_up_n (d34 _ _ (by decide)), kc_Z2, kr_up_n (kr_ne20 n3), kr_up_s, kc_16 (by rw [e00]; omega)]
      refine congrArg (fun f => kr_ai G 1 100 f) (funext fun s => ?_)
      rw [eN _ _ (by omega), (o2 s).2.2]
      rfl
  · simp only [List.mem_cons, List.not_mem_nil, or_false, forall_eq_or_imp, forall_eq] at hr
    obtain ⟨r13, r14, r15, r16⟩ := hr
    by_cases r1 : r = (1, 3)
    · subst r1
      rw [kc_l3, e00] at hc
      rw [kr_up_s]
      refine ⟨?_, (eA1 1 3 (by decide)).symm⟩
      rw [← hc, show kr_li g2 (1, 3) ((List.range (n + 1)).map fun i => gA g2 (13, i)) = some (.inr ((List.range (n + 1)).map (fun i => gA g2 (13, i)), gM g2 (1, 3), gC g2 (1, 3))) from rfl, m1.1, m1.2]
      have el : (List.range (n + 1)).map (fun i => gA g2 (13, i)) = (List.range n).map (fun i => gA g (13, i)) ++ [q] := by
        rw [List.range_succ, List.map_append, List.map_singleton, a13]
        congr 1
        exact List.map_congr_left fun i hi => eAx 13 i (Nat.ne_of_lt (List.mem_range.mp hi))
      rw [el]
    rw [kr_up_n r1]
    obtain ⟨a, b⟩ := r
    by_cases h18 : 18 ≤ a
    · rw [kc_Z (r := (a, b)) h18] at hc ⊢
      refine ⟨?_, (eA1 a b (by omega)).symm⟩
      have nz : ∀ y, Z (20, y) = none → (a, b) ≠ (20, y) := fun y hy z => by rw [z, hy] at hc; cases hc
      rw [kr_up_n (nz q hq), kr_up_n (nz q3 hq3), kr_up_n (nz q2 hq2), kr_up_n (nz q1 hq1)]
      exact hc
    have hbn : a = 13 ∨ a = 14 ∨ a = 15 ∨ a = 16 → b ≠ n := by
      rintro (rfl | rfl | rfl | rfl) z
      · exact r13 (by rw [z])
      · exact r14 (by rw [z])
      · exact r15 (by rw [z])
      · exact r16 (by rw [z])
    have hb0 : a = 1 → b ≠ 3 := by
      rintro rfl z
      exact r1 (by rw [z])
    refine ⟨?_, ?_⟩
    rotate_left
    · by_cases e : a = 13 ∨ a = 14 ∨ a = 15 ∨ a = 16
      · exact (eAx a b (hbn e)).symm
      · exact (eA1 a b (by omega)).symm
    clear r1 r13 r14 r15 r16
    have lt : b < sN (uN S 2 0 (n + 1)) 2 0 → b ≠ n → b < sN S 2 0 := fun h1 h2 => by rw [e00] at h1; omega
    rcases (show a = 0 ∨ a = 1 ∨ a = 2 ∨ a = 3 ∨ a = 4 ∨ a = 5 ∨ a = 6 ∨ a = 7 ∨ a = 8 ∨ a = 9 ∨ a = 10 ∨ a = 11 ∨ a = 12 ∨ a = 13 ∨ a = 14 ∨ a = 15 ∨ a = 16 ∨ a = 17 by omega) with rfl | rfl | rfl | rfl | rfl | rfl | rfl | rfl | rfl | rfl | rfl | rfl | rfl | rfl | rfl | rfl | rfl | rfl
    case inr.inl =>
      have hb := hb0 rfl
      rcases (show b = 0 ∨ b = 1 ∨ b = 2 ∨ (b ≠ 0 ∧ b ≠ 1 ∧ b ≠ 2 ∧ b ≠ 3) by omega) with rfl | rfl | rfl | hb9
      · rw [kc_l0] at hc ⊢
        rw [← hc]
        unfold kr_li
        rw [(eM1 0 (by decide)).1, (eM1 0 (by decide)).2, eN 0 0 (by decide), show (fun i => gA g2 (2, i)) = (fun i => gA g (2, i)) from funext fun i => eA1 2 i (by decide)]
      · rw [kc_l1] at hc ⊢
        rw [← hc]
        unfold kr_li
        rw [(eM1 1 (by decide)).1, (eM1 1 (by decide)).2, eN 1 0 (by decide), show (fun i => gA g2 (5, i)) = (fun i => gA g (5, i)) from funext fun i => eA1 5 i (by decide)]
      · rw [kc_l2] at hc ⊢
        rw [← hc]
        unfold kr_li
        rw [(eM1 2 (by decide)).1, (eM1 2 (by decide)).2, eN 14 0 (by decide), show (fun i => gA g2 (11, i)) = (fun i => gA g (11, i)) from funext fun i => eA1 11 i (by decide)]
      · replace hc : (if b = 0 then _ else if b = 1 then _ else if b = 2 then _ else if b = 3 then _ else none) = some c := hc
        rw [if_neg hb9.1, if_neg hb9.2.1, if_neg hb9.2.2.1, if_neg hb9.2.2.2] at hc
        cases hc
    case inr.inr.inr.inr.inr.inr.inr.inr.inr.inr.inr.inr.inr.inl =>
      have hb := hbn (by omega)
      by_cases hh : b < sN (uN S 2 0 (n + 1)) 2 0
      · rw [kc_13 hh] at hc
        rw [kc_13 (lt hh hb), ← hc, eAx 14 b hb, eAx 15 b hb, eAx 16 b hb, eN 10 b (by decide), show (fun i => gA g2 (5, i)) = (fun i => gA g (5, i)) from funext fun i => eA1 5 i (by decide)]
      · replace hc : (if b < sN (uN S 2 0 (n + 1)) 2 0 then _ else none) = some c := hc
        rw [if_neg hh] at hc
        cases hc
    case inr.inr.inr.inr.inr.inr.inr.inr.inr.inr.inr.inr.inr.inr.inl =>
      have hb := hbn (by omega)
      by_cases hh : b < sN (uN S 2 0 (n + 1)) 2 0
      · rw [kc_14 hh] at hc
        rw [kc_14 (lt hh hb), ← hc]
        rfl
      · replace hc : (if b < sN (uN S 2 0 (n + 1)) 2 0 then _ else none) = some c := hc
        rw [if_neg hh] at hc
        cases hc
    case inr.inr.inr.inr.inr.inr.inr.inr.inr.inr.inr.inr.inr.inr.inr.inl =>
      have hb := hbn (by omega)
      by_cases hh : b < sN (uN S 2 0 (n + 1)) 2 0
      · rw [kc_15 hh] at hc
        rw [kc_15 (lt hh hb), ← hc]
        rfl
      · replace hc : (if b < sN (uN S 2 0 (n + 1)) 2 0 then _ else none) = some c := hc
        rw [if_neg hh] at hc
        cases hc
    case inr.inr.inr.inr.inr.inr.inr.inr.inr.inr.inr.inr.inr.inr.inr.inr.inl =>
      have hb := hbn (by omega)
      by_cases hh : b < sN (uN S 2 0 (n + 1)) 2 0
      · rw [kc_16 hh] at hc
        rw [kc_16 (lt hh hb), ← hc]
        refine congrArg (fun f => kr_ai G 1 100 f) (funext fun s => ?_)
        rw [eN _ _ (by omega)]
      · replace hc : (if b < sN (uN S 2 0 (n + 1)) 2 0 then _ else none) = some c := hc
        rw [if_neg hh] at hc
        cases hc
    all_goals (rw [← hc]; simp only [kr_cells])
    all_goals (simp [kr_li, kr_ow, eA1, eN, eM, sI_uN, sL_uN, sD_uN]; done)
  · simp only [List.mem_cons, List.not_mem_nil, or_false]
    rintro e (rfl | rfl | rfl | rfl) <;> rw [kc_Z2] <;> assumption
theorem kr_up_abs2 {κ α : Type} [DecidableEq κ] {f : κ → α} {i j k : κ} {a b c d : α} (h : j ≠ i) (h2 : k ≠ i) : kr_up (kr_up (kr_up (kr_up f i a) j b) k c) i d = kr_up (kr_up (kr_up f j b) k c) i d := by
  funext r
  unfold kr_up
  by_cases h1 : r = i
  · rw [if_pos h1, if_pos h1]
  · simp only [if_neg h1]
theorem kr_up_abs3 {κ α : Type} [DecidableEq κ] {f : κ → α} {i j k m : κ} {a b c d e : α} (h : j ≠ i) (h2 : k ≠ i) (h3 : m ≠ i) : kr_up (kr_up (kr_up (kr_up (kr_up f i a) j b) k c) m d) i e = kr_up (kr_up (kr_up (kr_up f j b) k c) m d) i e := by
  funext r
  unfold kr_up
  by_cases h1 : r = i
  · rw [if_pos h1, if_pos h1]
  · simp only [if_neg h1]
/-- what adding to a short list costs, in the list's own words -/
theorem kr_short2 {g : kr_Gh} {r : kr_Ro} {xs : List Nat} (hg : kr_gok g) (hl : xs.length ≤ 9) (hcap : xs.length ≤ gC g r) : kr_gc (xs, gM g r, gC g r) ≤ 1 ∧ kr_gs (xs, gM g r, gC g r) ≤ 10 ∧ (10 ≤ kr_nc (xs, gM g r, gC g r) ∧ kr_nc (xs, gM g r, gC g r) ≤ 600) := by
  rcases kr_short (z := (xs, gM g r, gC g r)) hl (hg.2.1 _) with h | h
  · exact h
  · dsimp only at h
    omega
theorem ct_X1_list (hF : kr_F G l) (hg : kr_gok g) (hV : kr_V S) (h0 : kr_V0 S) (hZ : ∀ r z, Z r ≠ some (.inr z)) : kr_T G l yX1_list (ws_ yX1_list cX1_list 1 (Option.some Jvm.ClassFile.FieldType.int)) 8 700 [.ref (gA g (0, 0))] (kr_S G (gA g) (kr_cells G g S Z)) 5 21 (fun v H => (sN S 0 0 < 8 ∧ v = some (.int (nI (sN S 0 0)))) ∧ kr_Hx G [1, 2, 3, 4] g (uN S 0 0 (sN S 0 0 + 1)) Z H) (fun E H => (sN S 0 0 = 8 ∧ E = kE_S) ∧ kr_S G (gA g) (kr_cells G g S Z) H) := by
  have hn8 : sN S 0 0 ≤ 8 := hV.1.1
  refine kr_T.of (by decide +kernel) hF (by simp [Value.category]) (Nat.le_of_ble_eq_true rfl) (fun x hx X => ?_)
  refine kj_aload_n X dX1_list_0 rfl rfl (by first | exact ⟨some _, rfl⟩ | exact ⟨none, rfl⟩ | exact ⟨_, rfl⟩) ?_
  refine kj_get X kc_X1 0 (by decide) q226 (Or.inl rfl) dX1_list_1 (fun H h => h.own (kc_kio)) rfl ?_
  refine kj_callF X 0 (ct_J2_size X.F kc_l0) q478 q481 q483 q46 q485 q480 q479 q484 q482 q148 ⟨by decide, by decide, by decide +kernel⟩ dX1_list_4 rfl rfl (by first | exact Nat.le_of_ble_eq_true rfl | simp [kr_cat, Value.category]) ⟨Nat.le_of_ble_eq_true rfl, Nat.le_of_ble_eq_true rfl⟩ ⟨by dsimp only; omega, by dsimp only; omega⟩ kc_J2.1 (fun H h => h.list (kc_l0)) (fun E => kjx_no) (fun v_4 => ?_)
  refine kj_and (fun e_4 => ?_)
  subst e_4
  rw [List.length_map, List.length_range]
  refine kj_bipush (v := 8) X dX1_list_9 (by decide) ?_
  refine kj_icmp_ge X 18 dX1_list_11 (by decide) (fun c_11 => ?_) (fun c_11 => ?_)
  · have e : sN S 0 0 = 8 := by
      have := (nI_leI (a := 8) (by decide) (by omega)).mp c_11
      omega
    refine kj_iconst (v := 0) X dX1_list_18 (by decide) ?_
    refine kj_callS X 1 (ct_X1_requireState X.F false (kr_S G (gA g) (kr_cells G g S Z)) kr_S.mono) (lw_S q486 q487 q43 q488) ⟨by decide, by decide, by decide +kernel⟩ dX1_list_19 rfl rfl (by first | exact Nat.le_of_ble_eq_true rfl | simp [kr_cat, Value.category]) ⟨Nat.le_of_ble_eq_true rfl, Nat.le_of_ble_eq_true rfl⟩ ⟨by dsimp only; omega, by dsimp only; omega⟩ (fun E => kjx_out X (by omega) (by omega) (fun H h => ⟨⟨e, h.2.1⟩, h.2.2⟩)) (fun v_19 => ?_)
    refine kj_and (fun z => ?_)
    cases z
  have hlt : sN S 0 0 < 8 := by
    by_cases e : sN S 0 0 < 8
    · exact e
    · exact absurd (nI_le (a := 8) (by omega) (by omega)) c_11
  refine kj_pure (fun H h => h.fits (kc_l0)) (fun hfit => ?_)
  rw [List.length_map, List.length_range] at hfit
  obtain ⟨s1, s2, s3⟩ := kr_short2 (r := (1, 0)) (xs := (List.range (sN S 0 0)).map fun i => gA g (2, i)) hg (by rw [List.length_map, List.length_range]; omega) (by rw [List.length_map, List.length_range]; exact hfit.1)
  refine kj_iconst (v := 1) X dX1_list_14 (by decide) ?_
  refine kj_goto X 19 dX1_list_15 (by decide) ?_
  refine kj_callS X 1 (ct_X1_requireState X.F true (kr_S G (gA g) (kr_cells G g S Z)) kr_S.mono) (lw_S q486 q487 q43 q488) ⟨by decide, by decide, by decide +kernel⟩ dX1_list_19 rfl rfl (by first | exact Nat.le_of_ble_eq_true rfl | simp [kr_cat, Value.category]) ⟨Nat.le_of_ble_eq_true rfl, Nat.le_of_ble_eq_true rfl⟩ ⟨by dsimp only; omega, by dsimp only; omega⟩ (fun E => kjx_pure (fun H h => h.1) (fun z => by cases z)) (fun v_19 => ?_)
  refine kj_and (fun _ => ?_)
  refine kj_and (fun e => ?_)
  subst e
  refine kj_aload_n X dX1_list_22 rfl rfl (by first | exact ⟨some _, rfl⟩ | exact ⟨none, rfl⟩ | exact ⟨_, rfl⟩) ?_
  refine kj_get X kc_X1 0 (by decide) q226 (Or.inl rfl) dX1_list_23 (fun H h => h.own (kc_kio)) rfl ?_
  refine kj_new (Pn := fun q H => Z (20, q) = none ∧ kr_S G (gA g) (kr_cells G g S (kr_up Z (20, q) (kr_o 3 [.null, .null]))) H) (fs := [.null, .null]) X kc_X4 q504 q505 q57 (fun j hj => by rcases (show j = 0 ∨ j = 1 by omega) with rfl | rfl <;> rfl) dX1_list_26 (by first | omega | (dsimp only; omega)) (by first | omega | (dsimp only; omega)) (fun H H1 h ho a u => h.mk2 hg a ho u) (fun q_26 => ?_)
  refine kj_and (fun h_q_26 => ?_)
  rw [show (Value.ref q_26) = Value.ref (gA g (20, q_26)) from by rw [(hg).2.2 q_26]]
  refine kj_dup X dX1_list_29 (by first | rfl | exact kr_cat _) ?_
  have hzz : kr_up Z (20, q_26) (kr_o 3 [.null, .null]) (20, q_26) = kr_o 3 [.null, .null] := kr_up_s
  refine kj_callIN X 0 (ct_X4_init X.F hg hzz) q508 q57 q506 q507 rfl ⟨by decide, by decide, by decide +kernel⟩ dX1_list_30 rfl rfl (by first | exact Nat.le_of_ble_eq_true rfl | simp [kr_cat, Value.category]) ⟨Nat.le_of_ble_eq_true rfl, Nat.le_of_ble_eq_true rfl⟩ ⟨by dsimp only; omega, by dsimp only; omega⟩ (fun E => kjx_no) (fun v_30 => ?_)
  refine kj_open (fun a ha => ?_)
  obtain ⟨hv, b1, b2, b3⟩ := ha
  subst hv
  obtain ⟨q1, q2⟩ := a
  dsimp only at b1 b2 b3 ⊢
  have n1 := kr_new20 hzz (fun z => by cases z) b1
  have n2 := kr_new20 hzz (fun z => by cases z) b2
  rw [kr_up_n (kr_ne20 n1)] at b1
  rw [kr_up_n (kr_ne20 n2)] at b2
  rw [kr_up_abs2 (kr_ne20 n1) (kr_ne20 n2)]
  have hob : kr_obj (gA g) (kr_cells G g S (kr_up (kr_up (kr_up Z (20, q1) kr_l0) (20, q2) (kr_al G [])) (20, q_26) (kr_o 3 [.ref q1, .ref q2]))) (gA g (20, q_26)) := ⟨(20, q_26), 3, _, (by rw [kc_Z2, kr_up_s]), rfl, (by show (20 : Nat) ≠ 40; decide), by decide⟩
  have hc6 : gC g (1, 0) ≤ 600 := by rcases hg.2.1 (1, 0) with h | h <;> omega
  refine kj_callF X 1 (ct_J2_add X.F hg.1 kc_l0 hob hc6) q145 q149 q151 q46 q153 q147 q146 q152 q150 q148 ⟨by decide, by decide, by decide +kernel⟩ dX1_list_33 rfl rfl (by first | exact Nat.le_of_ble_eq_true rfl | simp [kr_cat, Value.category]) ⟨Nat.le_of_ble_eq_true rfl, Nat.le_of_ble_eq_true rfl⟩ ⟨by dsimp only; omega, by dsimp only; omega⟩ kc_J2.1 (fun H h => h.list (kc_l0)) (fun E => kjx_no) (fun v_33 => ?_)
  refine kj_and (fun e_33 => ?_)
  subst e_33
  refine kj_pop X dX1_list_38 (by first | rfl | exact kr_cat _) ?_
  refine kj_P (P' := fun H => kr_Hx G [1, 2, 3, 4] g (uN S 0 0 (sN S 0 0 + 1)) Z H) (fun H h => ?_) ?_
  · rw [hg.2.2] at h
    exact kr_S.newList hV h0 rfl hlt hg (Or.inr s3) hZ h_q_26 b1 b2 n1 n2 b3 h
  refine kj_open (fun g2 hg2 => ?_)
  have e0 : gA g2 (0, 0) = gA g (0, 0) := (hg2.1 (0, 0) (by decide)).1
  rw [← e0]
  refine kj_aload_n X dX1_list_39 rfl rfl (by first | exact ⟨some _, rfl⟩ | exact ⟨none, rfl⟩ | exact ⟨_, rfl⟩) ?_
  refine kj_get X kc_X1 0 (by decide) q226 (Or.inl rfl) dX1_list_40 (fun H h => h.own (kc_kio)) rfl ?_
  refine kj_callF X 0 (ct_J2_size X.F kc_l0) q478 q481 q483 q46 q485 q480 q479 q484 q482 q148 ⟨by decide, by decide, by decide +kernel⟩ dX1_list_43 rfl rfl (by first | exact Nat.le_of_ble_eq_true rfl | simp [kr_cat, Value.category]) ⟨Nat.le_of_ble_eq_true rfl, Nat.le_of_ble_eq_true rfl⟩ ⟨by dsimp only; omega, by dsimp only; omega⟩ kc_J2.1 (fun H h => h.list (kc_l0)) (fun E => kjx_no) (fun v_43 => ?_)
  refine kj_and (fun e_43 => ?_)
  subst e_43
  rw [List.length_map, List.length_range, sN_uN, if_pos ⟨rfl, rfl⟩]
  refine kj_iconst (v := 1) X dX1_list_48 (by decide) ?_
  refine kj_isub X dX1_list_49 ?_
  rw [kr_dec (by omega), Nat.add_sub_cancel]
  exact kj_iret X dX1_list_50 (by omega) (by omega) (fun H h => ⟨⟨hlt, rfl⟩, kr_Hx.of h hg2.1 hg2.2⟩)
theorem ct_X1_kiosk (hF : kr_F G l) (hg : kr_gok g) (hV : kr_V S) (h0 : kr_V0 S) (hZ : ∀ r z, Z r ≠ some (.inr z)) : kr_T G l yX1_kiosk (ws_ yX1_kiosk cX1_kiosk 1 (Option.some Jvm.ClassFile.FieldType.int)) 8 700 [.ref (gA g (0, 0))] (kr_S G (gA g) (kr_cells G g S Z)) 4 26 (fun v H => (sN S 1 0 < 6 ∧ v = some (.int (nI (sN S 1 0)))) ∧ kr_Hx G [1, 5, 6] g (uN S 1 0 (sN S 1 0 + 1)) Z H) (fun E H => (sN S 1 0 = 6 ∧ E = kE_S) ∧ kr_S G (gA g) (kr_cells G g S Z) H) := by
  have hn8 : sN S 1 0 ≤ 6 := hV.1.2.1
  refine kr_T.of (by decide +kernel) hF (by simp [Value.category]) (Nat.le_of_ble_eq_true rfl) (fun x hx X => ?_)
  refine kj_aload_n X dX1_kiosk_0 rfl rfl (by first | exact ⟨some _, rfl⟩ | exact ⟨none, rfl⟩ | exact ⟨_, rfl⟩) ?_
  refine kj_get X kc_X1 1 (by decide) q227 (Or.inl rfl) dX1_kiosk_1 (fun H h => h.own (kc_kio)) rfl ?_
  refine kj_callF X 0 (ct_J2_size X.F kc_l1) q478 q481 q483 q46 q485 q480 q479 q484 q482 q148 ⟨by decide, by decide, by decide +kernel⟩ dX1_kiosk_4 rfl rfl (by first | exact Nat.le_of_ble_eq_true rfl | simp [kr_cat, Value.category]) ⟨Nat.le_of_ble_eq_true rfl, Nat.le_of_ble_eq_true rfl⟩ ⟨by dsimp only; omega, by dsimp only; omega⟩ kc_J2.1 (fun H h => h.list (kc_l1)) (fun E => kjx_no) (fun v_4 => ?_)
  refine kj_and (fun e_4 => ?_)
  subst e_4
  rw [List.length_map, List.length_range]
  refine kj_bipush (v := 6) X dX1_kiosk_9 (by decide) ?_
  refine kj_icmp_ge X 18 dX1_kiosk_11 (by decide) (fun c_11 => ?_) (fun c_11 => ?_)
  · have e : sN S 1 0 = 6 := by
      have := (nI_leI (a := 6) (by decide) (by omega)).mp c_11
      omega
    refine kj_iconst (v := 0) X dX1_kiosk_18 (by decide) ?_
    refine kj_callS X 1 (ct_X1_requireState X.F false (kr_S G (gA g) (kr_cells G g S Z)) kr_S.mono) (lw_S q486 q487 q43 q488) ⟨by decide, by decide, by decide +kernel⟩ dX1_kiosk_19 rfl rfl (by first | exact Nat.le_of_ble_eq_true rfl | simp [kr_cat, Value.category]) ⟨Nat.le_of_ble_eq_true rfl, Nat.le_of_ble_eq_true rfl⟩ ⟨by dsimp only; omega, by dsimp only; omega⟩ (fun E => kjx_out X (by omega) (by omega) (fun H h => ⟨⟨e, h.2.1⟩, h.2.2⟩)) (fun v_19 => ?_)
    refine kj_and (fun z => ?_)
    cases z
  have hlt : sN S 1 0 < 6 := by
    by_cases e : sN S 1 0 < 6
    · exact e
    · exact absurd (nI_le (a := 6) (by omega) (by omega)) c_11
  refine kj_pure (fun H h => h.fits (kc_l1)) (fun hfit => ?_)
  rw [List.length_map, List.length_range] at hfit
  obtain ⟨s1, s2, s3⟩ := kr_short2 (r := (1, 1)) (xs := (List.range (sN S 1 0)).map fun i => gA g (5, i)) hg (by rw [List.length_map, List.length_range]; omega) (by rw [List.length_map, List.length_range]; exact hfit.1)
  refine kj_iconst (v := 1) X dX1_kiosk_14 (by decide) ?_
  refine kj_goto X 19 dX1_kiosk_15 (by decide) ?_
  refine kj_callS X 1 (ct_X1_requireState X.F true (kr_S G (gA g) (kr_cells G g S Z)) kr_S.mono) (lw_S q486 q487 q43 q488) ⟨by decide, by decide, by decide +kernel⟩ dX1_kiosk_19 rfl rfl (by first | exact Nat.le_of_ble_eq_true rfl | simp [kr_cat, Value.category]) ⟨Nat.le_of_ble_eq_true rfl, Nat.le_of_ble_eq_true rfl⟩ ⟨by dsimp only; omega, by dsimp only; omega⟩ (fun E => kjx_pure (fun H h => h.1) (fun z => by cases z)) (fun v_19 => ?_)
  refine kj_and (fun _ => ?_)
  refine kj_and (fun e => ?_)
  subst e
  refine kj_aload_n X dX1_kiosk_22 rfl rfl (by first | exact ⟨some _, rfl⟩ | exact ⟨none, rfl⟩ | exact ⟨_, rfl⟩) ?_
  refine kj_get X kc_X1 1 (by decide) q227 (Or.inl rfl) dX1_kiosk_23 (fun H h => h.own (kc_kio)) rfl ?_
  refine kj_new (Pn := fun q H => Z (20, q) = none ∧ kr_S G (gA g) (kr_cells G g S (kr_up Z (20, q) (kr_o 6 [.int 0, .null, .null, .int 0, .int 0, .int 0, .int 0]))) H) (fs := [.int 0, .null, .null, .int 0, .int 0, .int 0, .int 0]) X kc_X15 q404 q1059 q83 (fun j hj => by rcases (show j = 0 ∨ j = 1 ∨ j = 2 ∨ j = 3 ∨ j = 4 ∨ j = 5 ∨ j = 6 by omega) with rfl | rfl | rfl | rfl | rfl | rfl | rfl <;> rfl) dX1_kiosk_26 (by first | omega | (dsimp only; omega)) (by first | omega | (dsimp only; omega)) (fun H H1 h ho a u => h.mk2 hg a ho u) (fun q_26 => ?_)
  refine kj_and (fun h_q_26 => ?_)
  rw [show (Value.ref q_26) = Value.ref (gA g (20, q_26)) from by rw [(hg).2.2 q_26]]
  refine kj_dup X dX1_kiosk_29 (by first | rfl | exact kr_cat _) ?_
  refine kj_aload_n X dX1_kiosk_30 rfl rfl (by first | exact ⟨some _, rfl⟩ | exact ⟨none, rfl⟩ | exact ⟨_, rfl⟩) ?_
  refine kj_get X kc_X1 1 (by decide) q227 (Or.inl rfl) dX1_kiosk_31 (fun H h => h.own (kc_kio)) rfl ?_
  refine kj_callF X 0 (ct_J2_size X.F kc_l1) q478 q481 q483 q46 q485 q480 q479 q484 q482 q148 ⟨by decide, by decide, by decide +kernel⟩ dX1_kiosk_34 rfl rfl (by first | exact Nat.le_of_ble_eq_true rfl | simp [kr_cat, Value.category]) ⟨Nat.le_of_ble_eq_true rfl, Nat.le_of_ble_eq_true rfl⟩ ⟨by dsimp only; omega, by dsimp only; omega⟩ kc_J2.1 (fun H h => h.list (kc_l1)) (fun E => kjx_no) (fun v_34 => ?_)
  refine kj_and (fun e_34 => ?_)
  subst e_34
  rw [List.length_map, List.length_range]
  have hzz : kr_up Z (20, q_26) (kr_o 6 [.int 0, .null, .null, .int 0, .int 0, .int 0, .int 0]) (20, q_26) = kr_o 6 [.int 0, .null, .null, .int 0, .int 0, .int 0, .int 0] := kr_up_s
  refine kj_callI X 1 (ct_X15_init X.F hg hzz) q1062 q83 q1060 q1061 rfl ⟨by decide, by decide, by decide +kernel⟩ dX1_kiosk_39 rfl rfl (by first | exact Nat.le_of_ble_eq_true rfl | simp [kr_cat, Value.category]) ⟨Nat.le_of_ble_eq_true rfl, Nat.le_of_ble_eq_true rfl⟩ ⟨by dsimp only; omega, by dsimp only; omega⟩ (fun E => kjx_no) (fun v_39 => ?_)
  refine kj_open (fun q1 ha => ?_)
  obtain ⟨hv, b1⟩ := ha
  subst hv
  have n1 := kr_new20 hzz (fun z => by cases z) b1
  rw [kr_up_n (kr_ne20 n1)] at b1
  rw [kr_up_abs (kr_ne20 n1)]
  have hob : kr_obj (gA g) (kr_cells G g S (kr_up (kr_up Z (20, q1) kr_l0) (20, q_26) (kr_o 6 [.int (nI (sN S 1 0)), .ref q1, .null, .int 0, .int 0, .int 0, .int (-1)]))) (gA g (20, q_26)) := ⟨(20, q_26), 6, _, (by rw [kc_Z2, kr_up_s]), rfl, (by show (20 : Nat) ≠ 40; decide), by decide⟩
  have hc6 : gC g (1, 1) ≤ 600 := by rcases hg.2.1 (1, 1) with h | h <;> omega
  refine kj_callF X 1 (ct_J2_add X.F hg.1 kc_l1 hob hc6) q145 q149 q151 q46 q153 q147 q146 q152 q150 q148 ⟨by decide, by decide, by decide +kernel⟩ dX1_kiosk_42 rfl rfl (by first | exact Nat.le_of_ble_eq_true rfl | simp [kr_cat, Value.category]) ⟨Nat.le_of_ble_eq_true rfl, Nat.le_of_ble_eq_true rfl⟩ ⟨by dsimp only; omega, by dsimp only; omega⟩ kc_J2.1 (fun H h => h.list (kc_l1)) (fun E => kjx_no) (fun v_42 => ?_)
  refine kj_and (fun e_42 => ?_)
  subst e_42
  refine kj_pop X dX1_kiosk_47 (by first | rfl | exact kr_cat _) ?_
  refine kj_P (P' := fun H => kr_Hx G [1, 5, 6] g (uN S 1 0 (sN S 1 0 + 1)) Z H) (fun H h => ?_) ?_
  · rw [hg.2.2] at h
    exact kr_S.newKiosk hV h0 rfl hlt hg (Or.inr s3) hZ h_q_26 b1 n1 h
  refine kj_open (fun g2 hg2 => ?_)
  have e0 : gA g2 (0, 0) = gA g (0, 0) := (hg2.1 (0, 0) (by decide)).1
  rw [← e0]
  refine kj_aload_n X dX1_kiosk_48 rfl rfl (by first | exact ⟨some _, rfl⟩ | exact ⟨none, rfl⟩ | exact ⟨_, rfl⟩) ?_
  refine kj_get X kc_X1 1 (by decide) q227 (Or.inl rfl) dX1_kiosk_49 (fun H h => h.own (kc_kio)) rfl ?_
  refine kj_callF X 0 (ct_J2_size X.F kc_l1) q478 q481 q483 q46 q485 q480 q479 q484 q482 q148 ⟨by decide, by decide, by decide +kernel⟩ dX1_kiosk_52 rfl rfl (by first | exact Nat.le_of_ble_eq_true rfl | simp [kr_cat, Value.category]) ⟨Nat.le_of_ble_eq_true rfl, Nat.le_of_ble_eq_true rfl⟩ ⟨by dsimp only; omega, by dsimp only; omega⟩ kc_J2.1 (fun H h => h.list (kc_l1)) (fun E => kjx_no) (fun v_52 => ?_)
  refine kj_and (fun e_52 => ?_)
  subst e_52
  rw [List.length_map, List.length_range, sN_uN, if_pos ⟨rfl, rfl⟩]
  refine kj_iconst (v := 1) X dX1_kiosk_57 (by decide) ?_
  refine kj_isub X dX1_kiosk_58 ?_
  rw [kr_dec (by omega), Nat.add_sub_cancel]
  exact kj_iret X dX1_kiosk_59 (by omega) (by omega) (fun H h => ⟨⟨hlt, rfl⟩, kr_Hx.of h hg2.1 hg2.2⟩)
theorem ct_X1_visitor (hF : kr_F G l) (hg : kr_gok g) (hV : kr_V S) (h0 : kr_V0 S) (hZ : ∀ r z, Z r ≠ some (.inr z)) : kr_T G l yX1_visitor (ws_ yX1_visitor cX1_visitor 1 (Option.some Jvm.ClassFile.FieldType.int)) 8 700 [.ref (gA g (0, 0))] (kr_S G (gA g) (kr_cells G g S Z)) 6 320 (fun v H => (sN S 2 0 < 10 ∧ v = some (.int (nI (sN S 2 0)))) ∧ kr_Hx G [1, 13, 14, 15, 16] g (uN S 2 0 (sN S 2 0 + 1)) Z H) (fun E H => (sN S 2 0 = 10 ∧ E = kE_S) ∧ kr_S G (gA g) (kr_cells G g S Z) H) := by
  have hn8 : sN S 2 0 ≤ 10 := hV.1.2.2.1
  refine kr_T.of (by decide +kernel) hF (by simp [Value.category]) (Nat.le_of_ble_eq_true rfl) (fun x hx X => ?_)
  refine kj_aload_n X dX1_visitor_0 rfl rfl (by first | exact ⟨some _, rfl⟩ | exact ⟨none, rfl⟩ | exact ⟨_, rfl⟩) ?_
  refine kj_get X kc_X1 3 (by decide) q231 (Or.inl rfl) dX1_visitor_1 (fun H h => h.own (kc_kio)) rfl ?_
  refine kj_callF X 0 (ct_J2_size X.F kc_l3) q478 q481 q483 q46 q485 q480 q479 q484 q482 q148 ⟨by decide, by decide, by decide +kernel⟩ dX1_visitor_4 rfl rfl (by first | exact Nat.le_of_ble_eq_true rfl | simp [kr_cat, Value.category]) ⟨Nat.le_of_ble_eq_true rfl, Nat.le_of_ble_eq_true rfl⟩ ⟨by dsimp only; omega, by dsimp only; omega⟩ kc_J2.1 (fun H h => h.list (kc_l3)) (fun E => kjx_no) (fun v_4 => ?_)
  refine kj_and (fun e_4 => ?_)
  subst e_4
  rw [List.length_map, List.length_range]
  refine kj_bipush (v := 10) X dX1_visitor_9 (by decide) ?_
  refine kj_icmp_ge X 18 dX1_visitor_11 (by decide) (fun c_11 => ?_) (fun c_11 => ?_)
  · have e : sN S 2 0 = 10 := by
      have := (nI_leI (a := 10) (by decide) (by omega)).mp c_11
      omega
    refine kj_iconst (v := 0) X dX1_visitor_18 (by decide) ?_
    refine kj_callS X 1 (ct_X1_requireState X.F false (kr_S G (gA g) (kr_cells G g S Z)) kr_S.mono) (lw_S q486 q487 q43 q488) ⟨by decide, by decide, by decide +kernel⟩ dX1_visitor_19 rfl rfl (by first | exact Nat.le_of_ble_eq_true rfl | simp [kr_cat, Value.category]) ⟨Nat.le_of_ble_eq_true rfl, Nat.le_of_ble_eq_true rfl⟩ ⟨by dsimp only; omega, by dsimp only; omega⟩ (fun E => kjx_out X (by omega) (by omega) (fun H h => ⟨⟨e, h.2.1⟩, h.2.2⟩)) (fun v_19 => ?_)
    refine kj_and (fun z => ?_)
    cases z
  have hlt : sN S 2 0 < 10 := by
    by_cases e : sN S 2 0 < 10
    · exact e
    · exact absurd (nI_le (a := 10) (by omega) (by omega)) c_11
  refine kj_pure (fun H h => h.fits (kc_l3)) (fun hfit => ?_)
  rw [List.length_map, List.length_range] at hfit
  obtain ⟨s1, s2, s3⟩ := kr_short2 (r := (1, 3)) (xs := (List.range (sN S 2 0)).map fun i => gA g (13, i)) hg (by rw [List.length_map, List.length_range]; omega) (by rw [List.length_map, List.length_range]; exact hfit.1)
  refine kj_iconst (v := 1) X dX1_visitor_14 (by decide) ?_
  refine kj_goto X 19 dX1_visitor_15 (by decide) ?_
  refine kj_callS X 1 (ct_X1_requireState X.F true (kr_S G (gA g) (kr_cells G g S Z)) kr_S.mono) (lw_S q486 q487 q43 q488) ⟨by decide, by decide, by decide +kernel⟩ dX1_visitor_19 rfl rfl (by first | exact Nat.le_of_ble_eq_true rfl | simp [kr_cat, Value.category]) ⟨Nat.le_of_ble_eq_true rfl, Nat.le_of_ble_eq_true rfl⟩ ⟨by dsimp only; omega, by dsimp only; omega⟩ (fun E => kjx_pure (fun H h => h.1) (fun z => by cases z)) (fun v_19 => ?_)
  refine kj_and (fun _ => ?_)
  refine kj_and (fun e => ?_)
  subst e
  refine kj_aload_n X dX1_visitor_22 rfl rfl (by first | exact ⟨some _, rfl⟩ | exact ⟨none, rfl⟩ | exact ⟨_, rfl⟩) ?_
  refine kj_get X kc_X1 3 (by decide) q231 (Or.inl rfl) dX1_visitor_23 (fun H h => h.own (kc_kio)) rfl ?_
  refine kj_new (Pn := fun q H => Z (20, q) = none ∧ kr_S G (gA g) (kr_cells G g S (kr_up Z (20, q) (kr_o 7 [.null, .null, .null, .null]))) H) (fs := [.null, .null, .null, .null]) X kc_X18 q468 q1470 q86 (fun j hj => by rcases (show j = 0 ∨ j = 1 ∨ j = 2 ∨ j = 3 by omega) with rfl | rfl | rfl | rfl <;> rfl) dX1_visitor_26 (by first | omega | (dsimp only; omega)) (by first | omega | (dsimp only; omega)) (fun H H1 h ho a u => h.mk2 hg a ho u) (fun q_26 => ?_)
  refine kj_and (fun h_q_26 => ?_)
  rw [show (Value.ref q_26) = Value.ref (gA g (20, q_26)) from by rw [(hg).2.2 q_26]]
  refine kj_dup X dX1_visitor_29 (by first | rfl | exact kr_cat _) ?_
  have hzz : kr_up Z (20, q_26) (kr_o 7 [.null, .null, .null, .null]) (20, q_26) = kr_o 7 [.null, .null, .null, .null] := kr_up_s
  refine kj_callIN X 0 (ct_X18_init X.F hg hzz) q1473 q86 q1471 q1472 rfl ⟨by decide, by decide, by decide +kernel⟩ dX1_visitor_30 rfl rfl (by first | exact Nat.le_of_ble_eq_true rfl | simp [kr_cat, Value.category]) ⟨Nat.le_of_ble_eq_true rfl, Nat.le_of_ble_eq_true rfl⟩ ⟨by dsimp only; omega, by dsimp only; omega⟩ (fun E => kjx_no) (fun v_30 => ?_)
  refine kj_open (fun a ha => ?_)
  obtain ⟨hv, ⟨b1, b2, b3⟩, b4, b5, b6⟩ := ha
  subst hv
  obtain ⟨q1, q2, q3⟩ := a
  dsimp only at b1 b2 b3 b4 b5 b6 ⊢
  have n1 := kr_new20 hzz (fun z => by cases z) b1
  have n2 := kr_new20 hzz (fun z => by cases z) b2
  have n3 := kr_new20 hzz (fun z => by cases z) b3
  rw [kr_up_n (kr_ne20 n1)] at b1
  rw [kr_up_n (kr_ne20 n2)] at b2
  rw [kr_up_n (kr_ne20 n3)] at b3
  rw [kr_up_abs3 (kr_ne20 n1) (kr_ne20 n2) (kr_ne20 n3)]
  have hob : kr_obj (gA g) (kr_cells G g S (kr_up (kr_up (kr_up (kr_up Z (20, q1) (kr_ai G 0 100 (fun _ => 0))) (20, q2) (kr_ai G 0 100 (fun _ => 0))) (20, q3) (kr_ai G 1 100 (fun _ => 0))) (20, q_26) (kr_o 7 [.ref q1, .ref q2, .ref q3, .null]))) (gA g (20, q_26)) := ⟨(20, q_26), 7, _, (by rw [kc_Z2, kr_up_s]), rfl, (by show (20 : Nat) ≠ 40; decide), by decide⟩
  have hc6 : gC g (1, 3) ≤ 600 := by rcases hg.2.1 (1, 3) with h | h <;> omega
  refine kj_callF X 1 (ct_J2_add X.F hg.1 kc_l3 hob hc6) q145 q149 q151 q46 q153 q147 q146 q152 q150 q148 ⟨by decide, by decide, by decide +kernel⟩ dX1_visitor_33 rfl rfl (by first | exact Nat.le_of_ble_eq_true rfl | simp [kr_cat, Value.category]) ⟨Nat.le_of_ble_eq_true rfl, Nat.le_of_ble_eq_true rfl⟩ ⟨by dsimp only; omega, by dsimp only; omega⟩ kc_J2.1 (fun H h => h.list (kc_l3)) (fun E => kjx_no) (fun v_33 => ?_)
  refine kj_and (fun e_33 => ?_)
  subst e_33
  refine kj_pop X dX1_visitor_38 (by first | rfl | exact kr_cat _) ?_
  refine kj_P (P' := fun H => kr_Hx G [1, 13, 14, 15, 16] g (uN S 2 0 (sN S 2 0 + 1)) Z H) (fun H h => ?_) ?_
  · rw [hg.2.2] at h
    exact kr_S.newVisitor hV h0 rfl hlt hg (Or.inr s3) hZ h_q_26 b1 b2 b3 n1 n2 n3 b4 b5 b6 h
  refine kj_open (fun g2 hg2 => ?_)
  have e0 : gA g2 (0, 0) = gA g (0, 0) := (hg2.1 (0, 0) (by decide)).1
  rw [← e0]
  refine kj_aload_n X dX1_visitor_39 rfl rfl (by first | exact ⟨some _, rfl⟩ | exact ⟨none, rfl⟩ | exact ⟨_, rfl⟩) ?_
  refine kj_get X kc_X1 3 (by decide) q231 (Or.inl rfl) dX1_visitor_40 (fun H h => h.own (kc_kio)) rfl ?_
  refine kj_callF X 0 (ct_J2_size X.F kc_l3) q478 q481 q483 q46 q485 q480 q479 q484 q482 q148 ⟨by decide, by decide, by decide +kernel⟩ dX1_visitor_43 rfl rfl (by first | exact Nat.le_of_ble_eq_true rfl | simp [kr_cat, Value.category]) ⟨Nat.le_of_ble_eq_true rfl, Nat.le_of_ble_eq_true rfl⟩ ⟨by dsimp only; omega, by dsimp only; omega⟩ kc_J2.1 (fun H h => h.list (kc_l3)) (fun E => kjx_no) (fun v_43 => ?_)
  refine kj_and (fun e_43 => ?_)
  subst e_43
  rw [List.length_map, List.length_range, sN_uN, if_pos ⟨rfl, rfl⟩]
  refine kj_iconst (v := 1) X dX1_visitor_48 (by decide) ?_
  refine kj_isub X dX1_visitor_49 ?_
  rw [kr_dec (by omega), Nat.add_sub_cancel]
  exact kj_iret X dX1_visitor_50 (by omega) (by omega) (fun H h => ⟨⟨hlt, rfl⟩, kr_Hx.of h hg2.1 hg2.2⟩)
end
