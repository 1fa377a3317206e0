/-! TICK -/
set_option maxRecDepth 100000
/-- no lists among the other things -/
theorem kr_nol {Z : kr_Ro → Option kr_AE} (h : ∀ r z, Z r ≠ some (.inr z)) {q : kr_Ro} {e : kr_E} : ∀ r z, kr_up Z q (some (.inl e)) r ≠ some (.inr z) := fun r z => by
  by_cases e1 : r = q
  · rw [e1, kr_up_s]
    exact fun z => by cases z
  · rw [kr_up_n e1]
    exact h r z
section
variable {G : kr_G} {l : Launch} {g g' : kr_Gh} {S S' : kr_St} {Z Z' : kr_Ro → Option kr_AE}
theorem kj_trow {rm : Room} {x : kr_X} (X : kr_C G x yX1_tick cX1_tick 7 (some .int) rm []) (hR : 13 ≤ rm.frames ∧ 3500 ≤ rm.locals) {Q : State → Prop} {k q5 C D f6 : Nat} {xs : List Nat} {v1 v2 v3 : Option Value} (hZ : ∀ r z, Z r ≠ some (.inr z)) (hC : C ≤ rm.cells ∧ D ≤ rm.slots) (h6 : f6 < 2) (hlen : xs.length ≤ 6) {T : kr_St} (hgg : kr_gok g)
    (kk : ∀ g' cs ss lr v6, kr_gsm [8, 9, 10, 12] g g' → kr_gok g' → cs ≤ C → ss ≤ D → kr_J G x 7 Q (kr_S G (gA g') (kr_cells G g' T (kr_up Z (40, q5) (some (kr_it (gA g) (6, k) (nI xs.length) lr (gM g (6, k))))))) cs ss 105 [some (.ref (gA g (0, 0))), v1, v2, v3, some (.ref (gA g (5, k))), some (.ref (gA g (40, q5))), v6] []) :
    ∀ m i g' V lr v6 cs ss, i + m = xs.length → kr_gsm [8, 9, 10, 12] g g' → kr_gok g' → kr_V V → k < sN V 1 0 → sL V 2 k = xs → sN V 6 k = f6 → (∀ p ∈ xs, sN V 15 p = 1) → oRow k (xs.drop i) V = T → cs + 40 * m ≤ C → ss + 184 * m ≤ D →
      kr_J G x 7 Q (kr_S G (gA g') (kr_cells G g' V (kr_up Z (40, q5) (some (kr_it (gA g) (6, k) (nI i) lr (gM g (6, k))))))) cs ss 64 [some (.ref (gA g (0, 0))), v1, v2, v3, some (.ref (gA g (5, k))), some (.ref (gA g (40, q5))), v6] [] := by
  have r1 := hR.1
  have r2 := hR.2
  intro m
  induction m with
  | zero =>
    intro i g' V lr v6 cs ss hi hs hok hV hk hL hF6 hx hT h1 h2
    obtain rfl : i = xs.length := by omega
    have e40 : ∀ q, gA g' (40, q) = gA g (40, q) := fun q => (hs (40, q) (by show (40 : Nat) ∉ [8, 9, 10, 12]; decide)).1
    have e6 : gA g' (6, k) = gA g (6, k) ∧ gM g' (6, k) = gM g (6, k) := hs (6, k) (by show (6 : Nat) ∉ [8, 9, 10, 12]; decide)
    have hj : kr_cells G g' V (kr_up Z (40, q5) (some (kr_it (gA g) (6, k) (nI xs.length) lr (gM g (6, k))))) (40, q5) = some (kr_it (gA g') (6, k) (nI xs.length) lr (gM g' (6, k))) := by rw [kc_Zt, kr_up_s, kr_it_cg e6.1, e6.2]
    have hl : kr_cells G g' V (kr_up Z (40, q5) (some (kr_it (gA g) (6, k) (nI xs.length) lr (gM g (6, k))))) (6, k) = some (.inr (xs.map (fun i => gA g' (7, i)), gM g' (6, k), gC g' (6, k))) := by rw [kc_6 hk, hL]
    rw [← e40 q5]
    refine kj_aload X dX1_tick_64 rfl (by first | exact ⟨some _, rfl⟩ | exact ⟨none, rfl⟩ | exact ⟨_, rfl⟩) ?_
    refine kj_callF X 0 (ct_J22_hasNext X.F (Or.inl ⟨_, hl⟩) (by rw [List.length_map]; omega) (by rw [List.length_map]; omega) hj) q290 q294 q296 q81 q298 q292 q291 q297 q295 q293 ⟨by decide, by decide, by decide +kernel⟩ dX1_tick_66 rfl rfl (by first | exact Nat.le_of_ble_eq_true rfl | simp [kr_cat, Value.category]) ⟨by omega, by omega⟩ ⟨by omega, by omega⟩ kc_J22.1 (fun H h => h.rc (hj)) (fun E => kjx_no) (fun v_66 => ?_)
    refine kj_and (fun e_66 => ?_)
    subst e_66
    rw [List.length_map, show decide (xs.length < xs.length) = false from decide_eq_false (Nat.lt_irrefl _)]
    refine kj_if_eq X 105 dX1_tick_71 (by decide) (fun c_71 => ?_) (fun c_71 => ?_)
    · rw [e40 q5]
      rw [List.drop_length] at hT
      rw [show V = T from hT]
      exact kk g' _ _ lr v6 hs hok (by omega) (by omega)
    · exact absurd rfl c_71
  | succ m ih =>
    intro i g' V lr v6 cs ss hi hs hok hV hk hL hF6 hx hT h1 h2
    have hlt : i < xs.length := by omega
    have hxi : xs[i]? = some xs[i] := List.getElem?_eq_getElem hlt
    have hdr : xs.drop i = xs[i] :: xs.drop (i + 1) := List.drop_eq_getElem_cons hlt
    have hp := hx xs[i] (List.getElem_mem hlt)
    generalize xs[i] = p at hxi hdr hp
    rw [hdr] at hT
    have e0 : gA g' (0, 0) = gA g (0, 0) := (hs (0, 0) (by decide)).1
    have e5 : gA g' (5, k) = gA g (5, k) := (hs (5, k) (by show (5 : Nat) ∉ [8, 9, 10, 12]; decide)).1
    have e40 : ∀ q, gA g' (40, q) = gA g (40, q) := fun q => (hs (40, q) (by show (40 : Nat) ∉ [8, 9, 10, 12]; decide)).1
    have e6 : gA g' (6, k) = gA g (6, k) ∧ gM g' (6, k) = gM g (6, k) := hs (6, k) (by show (6 : Nat) ∉ [8, 9, 10, 12]; decide)
    have hj : kr_cells G g' V (kr_up Z (40, q5) (some (kr_it (gA g) (6, k) (nI i) lr (gM g (6, k))))) (40, q5) = some (kr_it (gA g') (6, k) (nI i) lr (gM g' (6, k))) := by rw [kc_Zt, kr_up_s, kr_it_cg e6.1, e6.2]
    have hl : kr_cells G g' V (kr_up Z (40, q5) (some (kr_it (gA g) (6, k) (nI i) lr (gM g (6, k))))) (6, k) = some (.inr (xs.map (fun i => gA g' (7, i)), gM g' (6, k), gC g' (6, k))) := by rw [kc_6 hk, hL]
    rw [← e40 q5]
    refine kj_aload X dX1_tick_64 rfl (by first | exact ⟨some _, rfl⟩ | exact ⟨none, rfl⟩ | exact ⟨_, rfl⟩) ?_
    refine kj_callF X 0 (ct_J22_hasNext X.F (Or.inl ⟨_, hl⟩) (by rw [List.length_map]; omega) (by rw [List.length_map]; omega) hj) q290 q294 q296 q81 q298 q292 q291 q297 q295 q293 ⟨by decide, by decide, by decide +kernel⟩ dX1_tick_66 rfl rfl (by first | exact Nat.le_of_ble_eq_true rfl | simp [kr_cat, Value.category]) ⟨by omega, by omega⟩ ⟨by omega, by omega⟩ kc_J22.1 (fun H h => h.rc (hj)) (fun E => kjx_no) (fun v_66 => ?_)
    refine kj_and (fun e_66 => ?_)
    subst e_66
    rw [List.length_map, show decide (i < xs.length) = true from decide_eq_true hlt]
    refine kj_if_eq X 105 dX1_tick_71 (by decide) (fun c_71 => ?_) (fun c_71 => ?_)
    · exact absurd c_71 (by decide)
    refine kj_aload X dX1_tick_74 rfl (by first | exact ⟨some _, rfl⟩ | exact ⟨none, rfl⟩ | exact ⟨_, rfl⟩) ?_
    refine kj_callF X 0 (ct_J22_next X.F hl (a := gA g' (7, p)) (by rw [List.getElem?_map, hxi]; rfl) hj) q300 q303 q305 q81 q307 q302 q301 q306 q304 q293 ⟨by decide, by decide, by decide +kernel⟩ dX1_tick_76 rfl rfl (by first | exact Nat.le_of_ble_eq_true rfl | simp [kr_cat, Value.category]) ⟨by omega, by omega⟩ ⟨by omega, by omega⟩ kc_J22.1 (fun H h => h.rc (hj)) (fun E => kjx_no) (fun v_76 => ?_)
    refine kj_and (fun e_76 => ?_)
    subst e_76
    rw [kc_upt, kr_up_up, kr_it_cg e6.1, e6.2]
    rw [← e0, ← e5]
    refine kj_ccastR X kc_X16.1 q1103 dX1_tick_81 (fun H h => h.at (kc_7 hp)) ?_
    refine kj_astore (lv' := [_, _, _, _, _, _, _]) X dX1_tick_84 (by decide) (by intro w h _; cases h <;> first | rfl | exact kr_cat _) (by first | exact ⟨some _, rfl⟩ | exact ⟨none, rfl⟩ | exact ⟨_, rfl⟩) rfl ?_
    refine kj_aload X dX1_tick_86 rfl (by first | exact ⟨some _, rfl⟩ | exact ⟨none, rfl⟩ | exact ⟨_, rfl⟩) ?_
    refine kj_getN X kc_X15 3 (by decide) q1072 rfl dX1_tick_88 (fun H h => h.own (kc_5 hk)) rfl ?_
    refine kj_if_ne X 102 dX1_tick_91 (by decide) (fun c_91 => ?_) (fun c_91 => ?_)
    · have eo : ¬ sN V 6 k = 0 := fun z => c_91 (by rw [z]; rfl)
      rw [e0, e5, e40 q5]
      refine kj_goto X 64 dX1_tick_102 (by decide) ?_
      refine ih (i + 1) g' V (nI i) _ _ _ (by omega) hs hok hV hk hL hF6 hx ?_ (by omega) (by omega)
      rw [← hT]
      show _ = oRow k _ (if sN V 6 k = 0 then oTurn V p k else V)
      rw [if_neg eo]
    · have eo : sN V 6 k = 0 := (nI_eq (b := 0) (by omega) (by omega)).mp c_91
      obtain ⟨t1, t2⟩ := oTurn_ok hV hp hk
      refine kj_aload_n X dX1_tick_94 rfl rfl (by first | exact ⟨some _, rfl⟩ | exact ⟨none, rfl⟩ | exact ⟨_, rfl⟩) ?_
      refine kj_aload X dX1_tick_95 rfl (by first | exact ⟨some _, rfl⟩ | exact ⟨none, rfl⟩ | exact ⟨_, rfl⟩) ?_
      refine kj_aload X dX1_tick_97 rfl (by first | exact ⟨some _, rfl⟩ | exact ⟨none, rfl⟩ | exact ⟨_, rfl⟩) ?_
      refine kj_callV X 2 (ct_X1_turn X.F hok hV hp hk (kr_nol hZ)) (lw_V q1300 q1302 qs15 q43 q1303) ⟨rfl, by decide, by decide, by decide +kernel⟩ dX1_tick_99 rfl rfl (by first | exact Nat.le_of_ble_eq_true rfl | simp [kr_cat, Value.category]) ⟨by omega, by omega⟩ ⟨by omega, by omega⟩ kc_X1.1 (fun H h => h.rc (kc_kio)) (fun E => kjx_no) (fun v_99 => ?_)
      refine kj_and (fun e_99 => ?_)
      subst e_99
      rw [e0, e5, e40 q5]
      refine kj_open (fun g2 hg2 => ?_)
      refine kj_goto X 64 dX1_tick_102 (by decide) ?_
      refine ih (i + 1) g2 (oTurn V p k) (nI i) _ _ _ (by omega) (hs.tr hg2.1 (fun _ z => z) (fun _ z => z)) hg2.2 t1 (by rw [t2.K]; exact hk) (by rw [t2.2.1 2 k (by decide) (by decide)]; exact hL) (by rw [t2.1 6 k (by decide) (by decide) (by decide) (by decide) (by decide)]; exact hF6) (fun q hq => by rw [t2.1 15 q (by decide) (by decide) (by decide) (by decide) (by decide)]; exact hx q hq) ?_ (by omega) (by omega)
      rw [← hT]
      show _ = oRow k _ (if sN V 6 k = 0 then oTurn V p k else V)
      rw [if_pos eo]
theorem kj_tall {rm : Room} {x : kr_X} (X : kr_C G x yX1_tick cX1_tick 7 (some .int) rm []) (hR : 13 ≤ rm.frames ∧ 3500 ≤ rm.locals) {Q : State → Prop} {q3 c0 s0 : Nat} {v1 v2 : Option Value} (hZ : ∀ r z, Z r ≠ some (.inr z)) (hC : c0 + 246 ≤ rm.cells ∧ s0 + 1128 ≤ rm.slots) (hV : kr_V S) (hP : kr_Pl S) (hgg : kr_gok g)
    (kk : ∀ g' cs ss lr v4 v5 v6, kr_gsm [8, 9, 10, 12] g g' → kr_gok g' → cs ≤ c0 + 246 → ss ≤ s0 + 1128 → kr_J G x 7 Q (kr_S G (gA g') (kr_cells G g' (oAll S (sN S 1 0)) (kr_up Z (40, q3) (some (kr_it (gA g) (1, 1) (nI (sN S 1 0)) lr (gM g (1, 1))))))) cs ss 108 [some (.ref (gA g (0, 0))), v1, v2, some (.ref (gA g (40, q3))), v4, v5, v6] []) :
    ∀ m n g' lr v4 v5 v6 cs ss, n + m = sN S 1 0 → kr_gsm [8, 9, 10, 12] g g' → kr_gok g' → cs ≤ c0 + n + 40 * ((List.range n).map (fun k => (sL S 2 k).length)).sum → ss ≤ s0 + 4 * n + 184 * ((List.range n).map (fun k => (sL S 2 k).length)).sum →
      kr_J G x 7 Q (kr_S G (gA g') (kr_cells G g' (oAll S n) (kr_up Z (40, q3) (some (kr_it (gA g) (1, 1) (nI n) lr (gM g (1, 1))))))) cs ss 32 [some (.ref (gA g (0, 0))), v1, v2, some (.ref (gA g (40, q3))), v4, v5, v6] [] := by
  have r1 := hR.1
  have r2 := hR.2
  have hK6 : sN S 1 0 ≤ 6 := hV.1.2.1
  have hlen : ∀ g' : kr_Gh, ((List.range (sN S 1 0)).map fun i => gA g' (5, i)).length = sN S 1 0 := fun g' => by rw [List.length_map, List.length_range]
  intro m
  induction m with
  | zero =>
    intro n g' lr v4 v5 v6 cs ss hn hs hok h1 h2
    obtain rfl : n = sN S 1 0 := by omega
    have hsum := hP.1.sum hK6 _ (Nat.le_refl _)
    have hK : sN (oAll S (sN S 1 0)) 1 0 = sN S 1 0 := (oAll_ok hV _ (Nat.le_refl _)).2.K
    have e40 : gA g' (40, q3) = gA g (40, q3) := (hs (40, q3) (by show (40 : Nat) ∉ [8, 9, 10, 12]; decide)).1
    have e11 : gA g' (1, 1) = gA g (1, 1) ∧ gM g' (1, 1) = gM g (1, 1) := hs (1, 1) (by decide)
    have hj : kr_cells G g' (oAll S (sN S 1 0)) (kr_up Z (40, q3) (some (kr_it (gA g) (1, 1) (nI (sN S 1 0)) lr (gM g (1, 1))))) (40, q3) = some (kr_it (gA g') (1, 1) (nI (sN S 1 0)) lr (gM g' (1, 1))) := by rw [kc_Zt, kr_up_s, kr_it_cg e11.1, e11.2]
    have hl1 : kr_cells G g' (oAll S (sN S 1 0)) (kr_up Z (40, q3) (some (kr_it (gA g) (1, 1) (nI (sN S 1 0)) lr (gM g (1, 1))))) (1, 1) = kr_li g' (1, 1) ((List.range (sN S 1 0)).map fun i => gA g' (5, i)) := by rw [kc_l1, hK]
    rw [← e40]
    refine kj_aload_n X dX1_tick_32 rfl rfl (by first | exact ⟨some _, rfl⟩ | exact ⟨none, rfl⟩ | exact ⟨_, rfl⟩) ?_
    refine kj_callF X 0 (ct_J22_hasNext X.F (Or.inl ⟨_, hl1⟩) (by rw [hlen]; omega) (by rw [hlen]; omega) hj) q290 q294 q296 q81 q298 q292 q291 q297 q295 q293 ⟨by decide, by decide, by decide +kernel⟩ dX1_tick_33 rfl rfl (by first | exact Nat.le_of_ble_eq_true rfl | simp [kr_cat, Value.category]) ⟨by omega, by omega⟩ ⟨by omega, by omega⟩ kc_J22.1 (fun H h => h.rc (hj)) (fun E => kjx_no) (fun v_33 => ?_)
    refine kj_and (fun e_33 => ?_)
    subst e_33
    rw [hlen, show decide (sN S 1 0 < sN S 1 0) = false from decide_eq_false (Nat.lt_irrefl _)]
    refine kj_if_eq X 108 dX1_tick_38 (by decide) (fun c_38 => ?_) (fun c_38 => ?_)
    · rw [e40]
      exact kk g' _ _ lr v4 v5 v6 hs hok (by omega) (by omega)
    · exact absurd rfl c_38
  | succ m ih =>
    intro n g' lr v4 v5 v6 cs ss hn hs hok h1 h2
    have hd : n < sN S 1 0 := by omega
    obtain ⟨hVU, hTU⟩ := oAll_ok hV n (by omega)
    have hsum := hP.1.sum hK6 (n + 1) (by omega)
    have hsum0 := hP.1.sum hK6 n (by omega)
    have hsucc : ((List.range (n + 1)).map (fun k => (sL S 2 k).length)).sum = ((List.range n).map (fun k => (sL S 2 k).length)).sum + (sL S 2 n).length := by
      rw [List.range_succ, List.map_append, List.sum_append]
      simp
    have hK : sN (oAll S n) 1 0 = sN S 1 0 := hTU.K
    have hL2 : sL (oAll S n) 2 n = sL S 2 n := hTU.2.1 2 n (by decide) (by decide)
    have hF6 : sN (oAll S n) 6 n = sN S 6 n := hTU.1 6 n (by decide) (by decide) (by decide) (by decide) (by decide)
    have hx : ∀ p ∈ sL S 2 n, sN (oAll S n) 15 p = 1 := fun p hp => by
      rw [hTU.1 15 p (by decide) (by decide) (by decide) (by decide) (by decide)]
      exact hV.2.1.1 n hd p hp
    have hlx : (sL S 2 n).length ≤ 6 := hP.1.le hK6 hd
    have nxt := ih (n + 1)
    rw [show oAll S (n + 1) = oRow n (sL S 2 n) (oAll S n) from rfl] at nxt
    generalize oAll S n = U at *
    have hdU : n < sN U 1 0 := by omega
    have e0 : gA g' (0, 0) = gA g (0, 0) := (hs (0, 0) (by decide)).1
    have e5 : gA g' (5, n) = gA g (5, n) := (hs (5, n) (by show (5 : Nat) ∉ [8, 9, 10, 12]; decide)).1
    have e40 : ∀ q, gA g' (40, q) = gA g (40, q) := fun q => (hs (40, q) (by show (40 : Nat) ∉ [8, 9, 10, 12]; decide)).1
    have e6 : gA g' (6, n) = gA g (6, n) ∧ gM g' (6, n) = gM g (6, n) := hs (6, n) (by show (6 : Nat) ∉ [8, 9, 10, 12]; decide)
    have e11 : gA g' (1, 1) = gA g (1, 1) ∧ gM g' (1, 1) = gM g (1, 1) := hs (1, 1) (by decide)
    have hj : kr_cells G g' U (kr_up Z (40, q3) (some (kr_it (gA g) (1, 1) (nI n) lr (gM g (1, 1))))) (40, q3) = some (kr_it (gA g') (1, 1) (nI n) lr (gM g' (1, 1))) := by rw [kc_Zt, kr_up_s, kr_it_cg e11.1, e11.2]
    have hl1 : kr_cells G g' U (kr_up Z (40, q3) (some (kr_it (gA g) (1, 1) (nI n) lr (gM g (1, 1))))) (1, 1) = kr_li g' (1, 1) ((List.range (sN S 1 0)).map fun i => gA g' (5, i)) := by rw [kc_l1, hK]
    rw [← e40 q3]
    refine kj_aload_n X dX1_tick_32 rfl rfl (by first | exact ⟨some _, rfl⟩ | exact ⟨none, rfl⟩ | exact ⟨_, rfl⟩) ?_
    refine kj_callF X 0 (ct_J22_hasNext X.F (Or.inl ⟨_, hl1⟩) (by rw [hlen]; omega) (by rw [hlen]; omega) hj) q290 q294 q296 q81 q298 q292 q291 q297 q295 q293 ⟨by decide, by decide, by decide +kernel⟩ dX1_tick_33 rfl rfl (by first | exact Nat.le_of_ble_eq_true rfl | simp [kr_cat, Value.category]) ⟨by omega, by omega⟩ ⟨by omega, by omega⟩ kc_J22.1 (fun H h => h.rc (hj)) (fun E => kjx_no) (fun v_33 => ?_)
    refine kj_and (fun e_33 => ?_)
    subst e_33
    rw [hlen, show decide (n < sN S 1 0) = true from decide_eq_true hd]
    refine kj_if_eq X 108 dX1_tick_38 (by decide) (fun c_38 => ?_) (fun c_38 => ?_)
    · exact absurd c_38 (by decide)
    refine kj_aload_n X dX1_tick_41 rfl rfl (by first | exact ⟨some _, rfl⟩ | exact ⟨none, rfl⟩ | exact ⟨_, rfl⟩) ?_
    refine kj_callF X 0 (ct_J22_next X.F hl1 (a := gA g' (5, n)) (by rw [List.getElem?_map, List.getElem?_range hd]; rfl) hj) q300 q303 q305 q81 q307 q302 q301 q306 q304 q293 ⟨by decide, by decide, by decide +kernel⟩ dX1_tick_42 rfl rfl (by first | exact Nat.le_of_ble_eq_true rfl | simp [kr_cat, Value.category]) ⟨by omega, by omega⟩ ⟨by omega, by omega⟩ kc_J22.1 (fun H h => h.rc (hj)) (fun E => kjx_no) (fun v_42 => ?_)
    refine kj_and (fun e_42 => ?_)
    subst e_42
    rw [kc_upt, kr_up_up, kr_it_cg e11.1, e11.2]
    refine kj_ccastR X kc_X15.1 q404 dX1_tick_47 (fun H h => h.at (kc_5 hdU)) ?_
    refine kj_astore (lv' := [_, _, _, _, _, _, _]) X dX1_tick_50 (by decide) (by intro w h _; cases h <;> first | rfl | exact kr_cat _) (by first | exact ⟨some _, rfl⟩ | exact ⟨none, rfl⟩ | exact ⟨_, rfl⟩) rfl ?_
    refine kj_aload X dX1_tick_52 rfl (by first | exact ⟨some _, rfl⟩ | exact ⟨none, rfl⟩ | exact ⟨_, rfl⟩) ?_
    refine kj_getN X kc_X15 1 (by decide) q1069 rfl dX1_tick_54 (fun H h => h.own (kc_5 hdU)) rfl ?_
    refine kj_callF X 0 (ct_J2_iterator X.F hok.1 (Or.inl ⟨_, kc_6 hdU⟩)) q262 q265 q267 q46 q269 q264 q263 q268 q266 q148 ⟨by decide, by decide, by decide +kernel⟩ dX1_tick_57 rfl rfl (by first | exact Nat.le_of_ble_eq_true rfl | simp [kr_cat, Value.category]) ⟨by omega, by omega⟩ ⟨by omega, by omega⟩ kc_J2.1 (fun H h => h.list (kc_6 hdU)) (fun E => kjx_no) (fun v_57 => ?_)
    refine kj_open (fun q5 hq5 => ?_)
    obtain ⟨hv, hq5⟩ := hq5
    subst hv
    rw [kc_Zt] at hq5
    rw [kc_upt]
    rw [show (some (Value.ref q5)).toList = [Value.ref (gA g (40, q5))] from by rw [(hgg.1 q5).1]; rfl]
    rw [kr_it_cg e6.1, e6.2, e5, e40 q3]
    refine kj_astore (lv' := [_, _, _, _, _, _, _]) X dX1_tick_62 (by decide) (by intro w h _; cases h <;> first | rfl | exact kr_cat _) (by first | exact ⟨some _, rfl⟩ | exact ⟨none, rfl⟩ | exact ⟨_, rfl⟩) rfl ?_
    refine kj_trow X hR (k := n) (q5 := q5) (C := cs + 1 + 40 * (sL S 2 n).length) (D := ss + 4 + 184 * (sL S 2 n).length) (f6 := sN S 6 n) (xs := sL S 2 n) (kr_nol hZ) ⟨by omega, by omega⟩ (hP.1.2.1 n hd).2.1 hlx (T := oRow n (sL S 2 n) U) hgg (fun g3 cs3 ss3 lr3 v63 a1 a2 a3 a4 => ?_) (sL S 2 n).length 0 g' U (-1) v6 _ _ (by omega) hs hok hVU hdU hL2 hF6 hx rfl (by omega) (by omega)
    refine kj_goto X 32 dX1_tick_105 (by decide) ?_
    refine kj_P (fun H h => kr_S.tidy h hq5) (nxt g3 (nI n) _ _ _ cs3 ss3 (by omega) a1 a2 ?_ ?_)
    · rw [hsucc]
      omega
    · rw [hsucc]
      omega
theorem ct_X1_tick (hF : kr_F G l) (hg : kr_gok g) (hV : kr_V S) (hP : kr_Pl S) (hZ : ∀ r z, Z r ≠ some (.inr z)) (i : Int32) : kr_T G l yX1_tick (ws_ yX1_tick cX1_tick 7 (Option.some Jvm.ClassFile.FieldType.int)) 14 3600 [.ref (gA g (0, 0)), .int i] (kr_S G (gA g) (kr_cells G g S Z)) 15101 78706 (fun v H => ∃ n, (i = nI n ∧ 1 ≤ n ∧ n ≤ 50 ∧ v = some (.int (sI (oTick S n) 0 0))) ∧ kr_Hx G [6, 8, 9, 10, 12] g (oTick S n) Z H) (fun E H => (¬ (1 ≤ i ∧ i ≤ 50) ∧ E = kE_A) ∧ kr_S G (gA g) (kr_cells G g S Z) H) := by
  refine kr_T.of (by decide +kernel) hF (by simp [Value.category]) (Nat.le_of_ble_eq_true rfl) (fun x hx X => ?_)
  refine kj_iload_n X dX1_tick_0 rfl rfl ?_
  refine kj_iconst (v := 1) X dX1_tick_1 (by decide) ?_
  refine kj_bipush (v := 50) X dX1_tick_2 (by decide) ?_
  refine kj_callS X 3 (ct_X1_isIn X.F i 1 50) (lw_S q608 q609 q43 q610) ⟨by decide, by decide, by decide +kernel⟩ dX1_tick_4 rfl rfl (by first | exact Nat.le_of_ble_eq_true rfl | simp [kr_cat, Value.category]) ⟨Nat.le_of_ble_eq_true rfl, Nat.le_of_ble_eq_true rfl⟩ ⟨by dsimp only; omega, by dsimp only; omega⟩ (fun E => kjx_no) (fun v_4 => ?_)
  refine kj_and (fun e_4 => ?_)
  subst e_4
  refine kj_callS X 1 (ct_X1_requireValid X.F (decide (1 ≤ i ∧ i ≤ 50)) (kr_S G (gA g) (kr_cells G g S Z)) kr_S.mono) (lw_S q697 q698 q43 q699) ⟨by decide, by decide, by decide +kernel⟩ dX1_tick_7 rfl rfl (by first | exact Nat.le_of_ble_eq_true rfl | simp [kr_cat, Value.category]) ⟨Nat.le_of_ble_eq_true rfl, Nat.le_of_ble_eq_true rfl⟩ ⟨by dsimp only; omega, by dsimp only; omega⟩ (fun E => kjx_out X (by omega) (by omega) (fun H h => ⟨⟨of_decide_eq_false h.1, h.2.1⟩, h.2.2⟩)) (fun v_7 => ?_)
  refine kj_and (fun hd => ?_)
  refine kj_and (fun e => ?_)
  subst e
  have hd := of_decide_eq_true hd
  obtain ⟨n, hn31, rfl⟩ := nI_of (x := i) (Int32.not_lt.mpr (Int32.le_trans (by decide) hd.1))
  have hn1 : 1 ≤ n := (nI_leI (a := 1) (by decide) hn31).mp hd.1
  have hn2 : n ≤ 50 := (nI_leI (b := 50) hn31 (by decide)).mp hd.2
  refine kj_aload_n X dX1_tick_10 rfl rfl (by first | exact ⟨some _, rfl⟩ | exact ⟨none, rfl⟩ | exact ⟨_, rfl⟩) ?_
  refine kj_iconst (v := 0) X dX1_tick_11 (by decide) ?_
  refine kj_put X kc_X1 4 (by decide) q232 (Or.inl rfl) rfl dX1_tick_12 (by first | rfl | exact kr_nar _ _ | exact kr_narb _) (by first | rfl | exact kr_fitr _ _ | exact kr_fitb _) (Nat.le_of_ble_eq_true rfl) (fun H h => h.own kc_kio) (fun H H1 h a u => h.upd kc_kio (ku_shown (v := 0)) a u) ?_
  refine kj_iconst (v := 0) X dX1_tick_15 (by decide) ?_
  refine kj_istore_n (lv' := [_, _, _, _, _, _, _]) X dX1_tick_16 rfl (by decide) (by intro w h _; cases h <;> first | rfl | exact kr_cat _) rfl ?_
  have hV0 : kr_V (uI S 0 0 0) := hV.int (by decide)
  have hP0 : kr_Pl (uI S 0 0 0) := hP.tr (kr_tr.rf.int (by omega))
  have eT : oTick S n = oTicks (uI S 0 0 0) n := rfl
  generalize uI S 0 0 0 = S0 at *
  have loop : ∀ m j g' v3 v4 v5 v6 cs ss, j + m = n → kr_gsm [6, 8, 9, 10, 12] g g' → kr_gok g' → cs ≤ 1 + 302 * j → ss ≤ 6 + 1574 * j → kr_J G x 7 (kr_Q G x 15101 78706 (fun v H => ∃ n', (nI n = nI n' ∧ 1 ≤ n' ∧ n' ≤ 50 ∧ v = some (.int (sI (oTick S n') 0 0))) ∧ kr_Hx G [6, 8, 9, 10, 12] g (oTick S n') Z H) (fun E H => (¬ (1 ≤ nI n ∧ nI n ≤ 50) ∧ E = kE_A) ∧ kr_S G (gA g) (kr_cells G g S Z) H)) (kr_S G (gA g') (kr_cells G g' (oTicks S0 j) Z)) cs ss 17 [some (.ref (gA g (0, 0))), some (.int (nI n)), some (.int (nI j)), v3, v4, v5, v6] [] := by
    intro m
    induction m with
    | zero =>
      intro j g' v3 v4 v5 v6 cs ss hj hs hok h1 h2
      obtain rfl : j = n := by omega
      have e0 : gA g' (0, 0) = gA g (0, 0) := (hs (0, 0) (by decide)).1
      rw [← e0]
      refine kj_iload_n X dX1_tick_17 rfl rfl ?_
      refine kj_iload_n X dX1_tick_18 rfl rfl ?_
      refine kj_icmp_ge X 118 dX1_tick_19 (by decide) (fun c_19 => ?_) (fun c_19 => ?_)
      · refine kj_aload_n X dX1_tick_118 rfl rfl (by first | exact ⟨some _, rfl⟩ | exact ⟨none, rfl⟩ | exact ⟨_, rfl⟩) ?_
        refine kj_get X kc_X1 4 (by decide) q232 (Or.inl rfl) dX1_tick_119 (fun H h => h.own (kc_kio)) rfl ?_
        exact kj_iret X dX1_tick_122 (by omega) (by omega) (fun H h => ⟨j, ⟨rfl, hn1, hn2, by rw [eT]⟩, by rw [eT]; exact kr_Hx.of h hs hok⟩)
      · exact absurd (Int32.le_refl _) c_19
    | succ m ih =>
      intro j g' v3 v4 v5 v6 cs ss hj hs hok h1 h2
      have e0 : gA g' (0, 0) = gA g (0, 0) := (hs (0, 0) (by decide)).1
      have e40 : ∀ q, gA g' (40, q) = gA g (40, q) := fun q => (hs (40, q) (by show (40 : Nat) ∉ [6, 8, 9, 10, 12]; decide)).1
      obtain ⟨hVj, hPj, hKj⟩ := oTicks_ok hV0 hP0 j
      have nxt := fun g3 v3 v4 v5 v6 cs ss => ih (j + 1) g3 v3 v4 v5 v6 cs ss
      rw [show oTicks S0 (j + 1) = oTick1 (oTicks S0 j) from rfl] at nxt
      generalize oTicks S0 j = U at *
      rw [← e0]
      refine kj_iload_n X dX1_tick_17 rfl rfl ?_
      refine kj_iload_n X dX1_tick_18 rfl rfl ?_
      refine kj_icmp_ge X 118 dX1_tick_19 (by decide) (fun c_19 => ?_) (fun c_19 => ?_)
      · exact absurd c_19 (nI_ge (by omega) (by omega))
      refine kj_aload_n X dX1_tick_22 rfl rfl (by first | exact ⟨some _, rfl⟩ | exact ⟨none, rfl⟩ | exact ⟨_, rfl⟩) ?_
      refine kj_get X kc_X1 1 (by decide) q227 (Or.inl rfl) dX1_tick_23 (fun H h => h.own (kc_kio)) rfl ?_
      refine kj_callF X 0 (ct_J2_iterator X.F hok.1 (Or.inl ⟨_, kc_l1⟩)) q262 q265 q267 q46 q269 q264 q263 q268 q266 q148 ⟨by decide, by decide, by decide +kernel⟩ dX1_tick_26 rfl rfl (by first | exact Nat.le_of_ble_eq_true rfl | simp [kr_cat, Value.category]) ⟨Nat.le_of_ble_eq_true rfl, Nat.le_of_ble_eq_true rfl⟩ ⟨by dsimp only; omega, by dsimp only; omega⟩ kc_J2.1 (fun H h => h.list (kc_l1)) (fun E => kjx_no) (fun v_26 => ?_)
      refine kj_open (fun q3 hq3 => ?_)
      obtain ⟨hv, hq3⟩ := hq3
      subst hv
      rw [kc_Zt] at hq3
      rw [kc_upt]
      rw [show (some (Value.ref q3)).toList = [Value.ref (gA g' (40, q3))] from by rw [(hok.1 q3).1]; rfl]
      refine kj_astore_n (lv' := [_, _, _, _, _, _, _]) X dX1_tick_31 rfl (by decide) (by intro w h _; cases h <;> first | rfl | exact kr_cat _) (by first | exact ⟨some _, rfl⟩ | exact ⟨none, rfl⟩ | exact ⟨_, rfl⟩) rfl ?_
      refine kj_tall X ⟨by dsimp only; omega, by dsimp only; omega⟩ (c0 := cs + 1) (s0 := ss + 4) (q3 := q3) hZ ⟨by dsimp only; omega, by dsimp only; omega⟩ hVj hPj hok (fun g4 cs4 ss4 lr4 v44 v54 v64 a1 a2 a3 a4 => ?_) (sN U 1 0) 0 g' (-1) _ _ _ _ _ (by omega) kr_gsm.rf hok (by show _ ≤ cs + 1 + 0 + 40 * 0; omega) (by show _ ≤ ss + 4 + 4 * 0 + 184 * 0; omega)
      obtain ⟨hVA, hTA⟩ := oAll_ok hVj (sN U 1 0) (Nat.le_refl _)
      have f0 : gA g4 (0, 0) = gA g' (0, 0) := (a1 (0, 0) (by decide)).1
      rw [← f0]
      refine kj_P (P' := kr_S G (gA g4) (kr_cells G g4 (oAll U (sN U 1 0)) Z)) (fun H h => kr_S.tidy h hq3) ?_
      refine kj_aload_n X dX1_tick_108 rfl rfl (by first | exact ⟨some _, rfl⟩ | exact ⟨none, rfl⟩ | exact ⟨_, rfl⟩) ?_
      refine kj_callV X 0 (ct_X1_watch X.F a2 hVA (hPj.tr hTA)) (lw_V q1401 q1403 qs19 q43 q1404) ⟨rfl, by decide, by decide, by decide +kernel⟩ dX1_tick_109 rfl rfl (by first | exact Nat.le_of_ble_eq_true rfl | simp [kr_cat, Value.category]) ⟨Nat.le_of_ble_eq_true rfl, Nat.le_of_ble_eq_true rfl⟩ ⟨by dsimp only; omega, by dsimp only; omega⟩ kc_X1.1 (fun H h => h.rc (kc_kio)) (fun E => kjx_no) (fun v_109 => ?_)
      refine kj_and (fun e_109 => ?_)
      subst e_109
      refine kj_open (fun g5 hg5 => ?_)
      rw [hTA.K]
      refine kj_P (P' := kr_S G (gA g5) (kr_cells G g5 (oTick1 U) Z)) (fun H h => h) ?_
      rw [f0, e0]
      refine kj_iinc (lv' := [_, _, _, _, _, _, _]) (w := nI (j + 1)) X dX1_tick_112 (by decide) rfl (by intro w h _; cases h <;> first | rfl | exact kr_cat _) (nI_1 j) rfl ?_
      refine kj_goto X 17 dX1_tick_115 (by decide) ?_
      exact nxt g5 _ _ _ _ _ _ (by omega) ((hs.tr a1 (K := [6, 8, 9, 10, 12]) (by simp) (by simp)).tr hg5.1 (by simp) (by simp)) hg5.2 (by omega) (by omega)
  exact loop n 0 g none none none none _ _ (by omega) kr_gsm.rf hg (by omega) (by omega)
end
