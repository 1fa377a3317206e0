/-! WATCH -/
set_option maxRecDepth 100000
theorem kr_it_cg {ad ad' : kr_Ro → Nat} {i : kr_Ro} {k la mc : Int32} (h : ad' i = ad i) : kr_it ad' i k la mc = kr_it ad i k la mc := by
  show (.inl (.inl (.inr (18, [.int k, .int la, .int mc, .ref (ad' i)]))) : kr_AE) = _
  rw [h]
section
variable {G : kr_G} {l : Launch} {g g' : kr_Gh} {S S' : kr_St} {Z Z' : kr_Ro → Option kr_AE}
/-- the players of a kiosk go elsewhere -/
theorem kj_going {rm : Room} {x : kr_X} (X : kr_C G x yX1_watch cX1_watch 6 none rm []) (hR : 9 ≤ rm.frames ∧ 1000 ≤ rm.locals) {Q : State → Prop} {n q3 q4 C D : Nat} {xs : List Nat} {e3 : Option kr_AE} {v1 v3 : Option Value} (hC : C ≤ rm.cells ∧ D ≤ rm.slots) (he3 : (xs ≠ [] ∧ e3 = some (.inr (xs.map (fun i => gA g (7, i)), 0, xs.length))) ∨ (xs = [] ∧ e3 = kr_o 17 [.int 0, .ref (kg_e1 G), .int 0])) (hne : q4 ≠ q3) (hZ3 : Z (40, q3) = e3) (hlen : xs.length ≤ 6) {T : kr_St} (hgg : kr_gok g)
    (kk : ∀ g' cs ss lr v5, kr_gsm [6] g g' → kr_gok g' → cs ≤ C → ss ≤ D → kr_J G x 6 Q (kr_S G (gA g') (kr_cells G g' T (kr_up Z (40, q4) (some (kr_it (gA g) (40, q3) (nI xs.length) lr 0))))) cs ss 138 [some (.ref (gA g (0, 0))), v1, some (.ref (gA g (5, n))), v3, some (.ref (gA g (40, q4))), v5] []) :
    ∀ m i g' V lr v5 cs ss, i + m = xs.length → kr_gsm [6] g g' → kr_gok g' → kr_V V → kr_Pw V n (xs.drop i) → oGoing n (xs.drop i) V = T → cs + m ≤ C → ss + 10 * m ≤ D →
      kr_J G x 6 Q (kr_S G (gA g') (kr_cells G g' V (kr_up Z (40, q4) (some (kr_it (gA g) (40, q3) (nI i) lr 0))))) cs ss 99 [some (.ref (gA g (0, 0))), v1, some (.ref (gA g (5, n))), v3, some (.ref (gA g (40, q4))), v5] [] := by
  have r1 := hR.1
  have r2 := hR.2
  intro m
  induction m with
  | zero =>
    intro i g' V lr v5 cs ss hi hs hok hV hP hT h1 h2
    obtain rfl : i = xs.length := by omega
    have e0 : gA g' (0, 0) = gA g (0, 0) := (hs (0, 0) (by decide)).1
    have e5 : gA g' (5, n) = gA g (5, n) := (hs (5, n) (by show (5 : Nat) ∉ [6]; decide)).1
    have e40 : ∀ q, gA g' (40, q) = gA g (40, q) := fun q => (hs (40, q) (by show (40 : Nat) ∉ [6]; decide)).1
    have e7 : ∀ q, gA g' (7, q) = gA g (7, q) := fun q => (hs (7, q) (by show (7 : Nat) ∉ [6]; decide)).1
    have hj : kr_cells G g' V (kr_up Z (40, q4) (some (kr_it (gA g) (40, q3) (nI xs.length) lr 0))) (40, q4) = some (kr_it (gA g') (40, q3) (nI xs.length) lr 0) := by rw [kc_Zt, kr_up_s, kr_it_cg (e40 q3)]
    have h3 : kr_cells G g' V (kr_up Z (40, q4) (some (kr_it (gA g) (40, q3) (nI xs.length) lr 0))) (40, q3) = e3 := by rw [kc_Zt, kr_up_n (fun z => hne (Prod.mk.inj z).2.symm)]; exact hZ3
    have hl : kr_lst (kr_cells G g' V (kr_up Z (40, q4) (some (kr_it (gA g) (40, q3) (nI xs.length) lr 0)))) (40, q3) (xs.map (fun i => gA g (7, i))) 0 := by
      rcases he3 with ⟨_, e⟩ | ⟨e, e'⟩
      · exact Or.inl ⟨_, h3.trans e⟩
      · exact Or.inr ⟨by rw [e]; rfl, _, h3.trans e'⟩
    rw [← e40 q4]
    refine kj_aload X dX1_watch_99 rfl (by first | exact ⟨some _, rfl⟩ | exact ⟨none, rfl⟩ | exact ⟨_, rfl⟩) ?_
    refine kj_callF X 0 (ct_J22_hasNext X.F hl (by rw [List.length_map]; omega) (by rw [List.length_map]; omega) hj) q290 q294 q296 q81 q298 q292 q291 q297 q295 q293 ⟨by decide, by decide, by decide +kernel⟩ dX1_watch_101 rfl rfl (by first | exact Nat.le_of_ble_eq_true rfl | simp [kr_cat, Value.category]) ⟨by omega, by omega⟩ ⟨by omega, by omega⟩ kc_J22.1 (fun H h => h.rc (hj)) (fun E => kjx_no) (fun v_101 => ?_)
    refine kj_and (fun e_101 => ?_)
    subst e_101
    rw [List.length_map, show decide (xs.length < xs.length) = false from decide_eq_false (Nat.lt_irrefl _)]
    refine kj_if_eq X 138 dX1_watch_106 (by decide) (fun c_106 => ?_) (fun c_106 => ?_)
    · rw [e40 q4]
      rw [List.drop_length] at hT
      rw [show V = T from hT]
      exact kk g' _ _ lr v5 hs hok (by omega) (by omega)
    · exact absurd rfl c_106
  | succ m ih =>
    intro i g' V lr v5 cs ss hi hs hok hV hP hT h1 h2
    have hlt : i < xs.length := by omega
    have hxi : xs[i]? = some xs[i] := List.getElem?_eq_getElem hlt
    have hdr : xs.drop i = xs[i] :: xs.drop (i + 1) := List.drop_eq_getElem_cons hlt
    generalize xs[i] = p at hxi hdr
    rw [hdr] at hP hT
    obtain ⟨s1, hp, s3⟩ := hP.step
    have e0 : gA g' (0, 0) = gA g (0, 0) := (hs (0, 0) (by decide)).1
    have e5 : gA g' (5, n) = gA g (5, n) := (hs (5, n) (by show (5 : Nat) ∉ [6]; decide)).1
    have e40 : ∀ q, gA g' (40, q) = gA g (40, q) := fun q => (hs (40, q) (by show (40 : Nat) ∉ [6]; decide)).1
    have e7 : ∀ q, gA g' (7, q) = gA g (7, q) := fun q => (hs (7, q) (by show (7 : Nat) ∉ [6]; decide)).1
    have hj : kr_cells G g' V (kr_up Z (40, q4) (some (kr_it (gA g) (40, q3) (nI i) lr 0))) (40, q4) = some (kr_it (gA g') (40, q3) (nI i) lr 0) := by rw [kc_Zt, kr_up_s, kr_it_cg (e40 q3)]
    have h3 : kr_cells G g' V (kr_up Z (40, q4) (some (kr_it (gA g) (40, q3) (nI i) lr 0))) (40, q3) = some (.inr (xs.map (fun i => gA g (7, i)), 0, xs.length)) := by
      rw [kc_Zt, kr_up_n (fun z => hne (Prod.mk.inj z).2.symm), hZ3]
      rcases he3 with ⟨_, e⟩ | ⟨e, _⟩
      · exact e
      · rw [e] at hlt
        cases hlt
    rw [← e40 q4]
    refine kj_aload X dX1_watch_99 rfl (by first | exact ⟨some _, rfl⟩ | exact ⟨none, rfl⟩ | exact ⟨_, rfl⟩) ?_
    refine kj_callF X 0 (ct_J22_hasNext X.F (Or.inl ⟨_, h3⟩) (by rw [List.length_map]; omega) (by rw [List.length_map]; omega) hj) q290 q294 q296 q81 q298 q292 q291 q297 q295 q293 ⟨by decide, by decide, by decide +kernel⟩ dX1_watch_101 rfl rfl (by first | exact Nat.le_of_ble_eq_true rfl | simp [kr_cat, Value.category]) ⟨by omega, by omega⟩ ⟨by omega, by omega⟩ kc_J22.1 (fun H h => h.rc (hj)) (fun E => kjx_no) (fun v_101 => ?_)
    refine kj_and (fun e_101 => ?_)
    subst e_101
    rw [List.length_map, show decide (i < xs.length) = true from decide_eq_true hlt]
    refine kj_if_eq X 138 dX1_watch_106 (by decide) (fun c_106 => ?_) (fun c_106 => ?_)
    · exact absurd c_106 (by decide)
    refine kj_aload X dX1_watch_109 rfl (by first | exact ⟨some _, rfl⟩ | exact ⟨none, rfl⟩ | exact ⟨_, rfl⟩) ?_
    refine kj_callF X 0 (ct_J22_next X.F h3 (a := gA g' (7, p)) (by rw [List.getElem?_map, hxi, e7]; rfl) hj) q300 q303 q305 q81 q307 q302 q301 q306 q304 q293 ⟨by decide, by decide, by decide +kernel⟩ dX1_watch_111 rfl rfl (by first | exact Nat.le_of_ble_eq_true rfl | simp [kr_cat, Value.category]) ⟨by omega, by omega⟩ ⟨by omega, by omega⟩ kc_J22.1 (fun H h => h.rc (hj)) (fun E => kjx_no) (fun v_111 => ?_)
    refine kj_and (fun e_111 => ?_)
    subst e_111
    rw [kc_upt, kr_up_up, kr_it_cg (e40 q3)]
    rw [← e0, ← e5]
    have hn : n < sN V 1 0 := hP.2.1
    have hb : ∀ k, k < sN V 1 0 → sN V 7 k < 2 := fun k hk => (hP.1.2.1 k hk).2.2
    have h6 : sN V 1 0 ≤ 6 := hV.1.2.1
    have hno : ∀ j, oNear V n = j + 1 → j < sN V 1 0 ∧ (sN V 3 j = 1 → sN V 15 j = 1) ∧ (sL V 2 j).length ≤ 9 := fun j e => by
      obtain ⟨n1, n2, n3, n4⟩ := s3 j e
      have := hP.1.le h6 n1
      rw [if_neg n4] at this
      exact ⟨n1, n2, by omega⟩
    refine kj_ccastR X kc_X16.1 q1103 dX1_watch_116 (fun H h => h.at (kc_7 hp)) ?_
    refine kj_astore (lv' := [_, _, _, _, _, _]) X dX1_watch_119 (by decide) (by intro w h _; cases h <;> first | rfl | exact kr_cat _) (by first | exact ⟨some _, rfl⟩ | exact ⟨none, rfl⟩ | exact ⟨_, rfl⟩) rfl ?_
    refine kj_aload_n X dX1_watch_121 rfl rfl (by first | exact ⟨some _, rfl⟩ | exact ⟨none, rfl⟩ | exact ⟨_, rfl⟩) ?_
    refine kj_aload X dX1_watch_122 rfl (by first | exact ⟨some _, rfl⟩ | exact ⟨none, rfl⟩ | exact ⟨_, rfl⟩) ?_
    refine kj_aload_n X dX1_watch_124 rfl rfl (by first | exact ⟨some _, rfl⟩ | exact ⟨none, rfl⟩ | exact ⟨_, rfl⟩) ?_
    refine kj_aload_n X dX1_watch_125 rfl rfl (by first | exact ⟨some _, rfl⟩ | exact ⟨none, rfl⟩ | exact ⟨_, rfl⟩) ?_
    refine kj_getN X kc_X15 0 (by decide) q1067 rfl dX1_watch_126 (fun H h => h.own (kc_5 hn)) rfl ?_
    refine kj_callV X 1 (ct_X1_nearest X.F h6 (by omega) hb) (lw_V q1165 q1167 qs11 q43 q1168) ⟨rfl, by decide, by decide, by decide +kernel⟩ dX1_watch_129 rfl rfl (by first | exact Nat.le_of_ble_eq_true rfl | simp [kr_cat, Value.category]) ⟨by omega, by omega⟩ ⟨by omega, by omega⟩ kc_X1.1 (fun H h => h.rc (kc_kio)) (fun E => kjx_no) (fun v_129 => ?_)
    refine kj_and (fun e_129 => ?_)
    subst e_129
    refine kj_callV X 2 (ct_X1_settle X.F hok hp hno _) (lw_V q1169 q1171 qs12 q43 q1172) ⟨rfl, by decide, by decide, by decide +kernel⟩ dX1_watch_132 rfl rfl (by first | exact Nat.le_of_ble_eq_true rfl | simp [kr_cat, Value.category]) ⟨by omega, by omega⟩ ⟨by omega, by omega⟩ kc_X1.1 (fun H h => h.rc (kc_kio)) (fun E => kjx_no) (fun v_132 => ?_)
    refine kj_and (fun e_132 => ?_)
    subst e_132
    rw [e0, e5, e40 q4]
    refine kj_open (fun g2 hg2 => ?_)
    refine kj_goto X 99 dX1_watch_135 (by decide) ?_
    exact ih (i + 1) g2 (oSet V p (oNear V n)) (nI i) _ (cs + 0 + 0 + 0 + 1) (ss + 0 + 0 + 0 + 10) (by omega) (hs.tr hg2.1 (by simp) (by simp)) hg2.2 (hV.set hp (by cases e : oNear V n with | zero => exact Nat.zero_le _ | succ j => exact (hno j e).1)) s1 hT (by omega) (by omega)
theorem ct_X1_watch (hF : kr_F G l) (hg : kr_gok g) (hV : kr_V S) (hP : kr_Pl S) : kr_T G l yX1_watch (ws_ yX1_watch cX1_watch 6 (Option.none : Option Jvm.ClassFile.FieldType)) 10 1200 [.ref (gA g (0, 0))] (kr_S G (gA g) (kr_cells G g S Z)) 55 442 (fun v H => v = none ∧ kr_Hx G [6] g (oWatch S (sN S 1 0)) Z H) kr_no := by
  have hK6 : sN S 1 0 ≤ 6 := hV.1.2.1
  refine kr_T.of (by decide +kernel) hF (by simp [Value.category]) (Nat.le_of_ble_eq_true rfl) (fun x hx X => ?_)
  refine kj_aload_n X dX1_watch_0 rfl rfl (by first | exact ⟨some _, rfl⟩ | exact ⟨none, rfl⟩ | exact ⟨_, rfl⟩) ?_
  refine kj_get X kc_X1 1 (by decide) q227 (Or.inl rfl) dX1_watch_1 (fun H h => h.own (kc_kio)) rfl ?_
  refine kj_callF X 0 (ct_J2_iterator X.F hg.1 (Or.inl ⟨_, kc_l1⟩)) q262 q265 q267 q46 q269 q264 q263 q268 q266 q148 ⟨by decide, by decide, by decide +kernel⟩ dX1_watch_4 rfl rfl (by first | exact Nat.le_of_ble_eq_true rfl | simp [kr_cat, Value.category]) ⟨Nat.le_of_ble_eq_true rfl, Nat.le_of_ble_eq_true rfl⟩ ⟨by dsimp only; omega, by dsimp only; omega⟩ kc_J2.1 (fun H h => h.list (kc_l1)) (fun E => kjx_no) (fun v_4 => ?_)
  refine kj_open (fun q hq => ?_)
  obtain ⟨hv, hq0⟩ := hq
  subst hv
  rw [kc_Zt] at hq0
  rw [kc_upt]
  rw [show (some (Value.ref q)).toList = [Value.ref (gA g (40, q))] from by rw [(hg.1 q).1]; rfl]
  refine kj_astore_n (lv' := [_, _, _, _, _, _]) X dX1_watch_9 rfl (by decide) (by intro w h _; cases h <;> first | rfl | exact kr_cat _) (by first | exact ⟨some _, rfl⟩ | exact ⟨none, rfl⟩ | exact ⟨_, rfl⟩) rfl ?_
  have hlen : ∀ g' : kr_Gh, ((List.range (sN S 1 0)).map fun i => gA g' (5, i)).length = sN S 1 0 := fun g' => by rw [List.length_map, List.length_range]
  have loop : ∀ m n g' lr v2 v3 v4 v5 cs ss, n + m = sN S 1 0 → kr_gsm [6] g g' → kr_gok g' → cs + 9 * m ≤ 55 → ss + 73 * m ≤ 442 → kr_J G x 6 (kr_Q G x 55 442 (fun v H => v = none ∧ kr_Hx G [6] g (oWatch S (sN S 1 0)) Z H) kr_no) (kr_S G (gA g') (kr_cells G g' (oWatch S n) (kr_up Z (40, q) (some (kr_it (gA g) (1, 1) (nI n) lr (gM g (1, 1))))))) cs ss 10 [some (.ref (gA g (0, 0))), some (.ref (gA g (40, q))), v2, v3, v4, v5] [] := by
    intro m
    induction m with
    | zero =>
      intro n g' lr v2 v3 v4 v5 cs ss hn hs hok h1 h2
      obtain rfl : n = sN S 1 0 := by omega
      have hK : sN (oWatch S (sN S 1 0)) 1 0 = sN S 1 0 := oWatch_N S 1 0 (by decide) (by decide) _
      have e40 : gA g' (40, q) = gA g (40, q) := (hs (40, q) (by show (40 : Nat) ∉ [6]; decide)).1
      have e11 : gA g' (1, 1) = gA g (1, 1) ∧ gM g' (1, 1) = gM g (1, 1) := hs (1, 1) (by decide)
      have hj : kr_cells G g' (oWatch S (sN S 1 0)) (kr_up Z (40, q) (some (kr_it (gA g) (1, 1) (nI (sN S 1 0)) lr (gM g (1, 1))))) (40, q) = some (kr_it (gA g') (1, 1) (nI (sN S 1 0)) lr (gM g' (1, 1))) := by rw [kc_Zt, kr_up_s, kr_it_cg e11.1, e11.2]
      have hl1 : kr_cells G g' (oWatch S (sN S 1 0)) (kr_up Z (40, q) (some (kr_it (gA g) (1, 1) (nI (sN S 1 0)) lr (gM g (1, 1))))) (1, 1) = kr_li g' (1, 1) ((List.range (sN S 1 0)).map fun i => gA g' (5, i)) := by rw [kc_l1, hK]
      rw [← e40]
      refine kj_aload_n X dX1_watch_10 rfl rfl (by first | exact ⟨some _, rfl⟩ | exact ⟨none, rfl⟩ | exact ⟨_, rfl⟩) ?_
      refine kj_callF X 0 (ct_J22_hasNext X.F (Or.inl ⟨_, hl1⟩) (by rw [hlen]; omega) (by rw [hlen]; omega) hj) q290 q294 q296 q81 q298 q292 q291 q297 q295 q293 ⟨by decide, by decide, by decide +kernel⟩ dX1_watch_11 rfl rfl (by first | exact Nat.le_of_ble_eq_true rfl | simp [kr_cat, Value.category]) ⟨Nat.le_of_ble_eq_true rfl, Nat.le_of_ble_eq_true rfl⟩ ⟨by dsimp only; omega, by dsimp only; omega⟩ kc_J22.1 (fun H h => h.rc (hj)) (fun E => kjx_no) (fun v_11 => ?_)
      refine kj_and (fun e_11 => ?_)
      subst e_11
      rw [hlen, show decide (sN S 1 0 < sN S 1 0) = false from decide_eq_false (Nat.lt_irrefl _)]
      refine kj_if_eq X 141 dX1_watch_16 (by decide) (fun c_16 => ?_) (fun c_16 => ?_)
      · exact kj_vret X dX1_watch_141 (by omega) (by omega) (fun H h => ⟨rfl, kr_Hx.of (h.tidy hq0) hs hok⟩)
      · exact absurd rfl c_16
    | succ m ih =>
      intro n g' lr v2 v3 v4 v5 cs ss hn hs hok h1 h2
      have hd : n < sN S 1 0 := by omega
      obtain ⟨hVU, hPU⟩ := oWatch_ok hV hP n (by omega)
      have hK : sN (oWatch S n) 1 0 = sN S 1 0 := oWatch_N S 1 0 (by decide) (by decide) _
      have nxt : ∀ g2 v2 v3 v4 v5 cs2 ss2, kr_gsm [6] g g2 → kr_gok g2 → cs2 ≤ cs + 9 → ss2 ≤ ss + 73 → kr_J G x 6 (kr_Q G x 55 442 (fun v H => v = none ∧ kr_Hx G [6] g (oWatch S (sN S 1 0)) Z H) kr_no) (kr_S G (gA g2) (kr_cells G g2 (oWatch1 (oWatch S n) n) (kr_up Z (40, q) (some (kr_it (gA g) (1, 1) (nI (n + 1)) (nI n) (gM g (1, 1))))))) cs2 ss2 138 [some (.ref (gA g (0, 0))), some (.ref (gA g (40, q))), v2, v3, v4, v5] [] := by
        intro g2 v2 v3 v4 v5 cs2 ss2 a1 a2 a3 a4
        refine kj_goto X 10 dX1_watch_138 (by decide) ?_
        exact ih (n + 1) g2 (nI n) v2 v3 v4 v5 cs2 ss2 (by omega) a1 a2 (by omega) (by omega)
      generalize oWatch S n = U at *
      generalize kr_Q G x 55 442 (fun v H => v = none ∧ kr_Hx G [6] g (oWatch S (sN S 1 0)) Z H) kr_no = Q at nxt ⊢
      have hdU : n < sN U 1 0 := by omega
      have e0 : gA g' (0, 0) = gA g (0, 0) := (hs (0, 0) (by decide)).1
      have e5 : gA g' (5, n) = gA g (5, n) := (hs (5, n) (by show (5 : Nat) ∉ [6]; decide)).1
      have e40 : ∀ q, gA g' (40, q) = gA g (40, q) := fun q => (hs (40, q) (by show (40 : Nat) ∉ [6]; decide)).1
      have e7 : ∀ q, gA g' (7, q) = gA g (7, q) := fun q => (hs (7, q) (by show (7 : Nat) ∉ [6]; decide)).1
      have e11 : gA g' (1, 1) = gA g (1, 1) ∧ gM g' (1, 1) = gM g (1, 1) := hs (1, 1) (by decide)
      have hj : kr_cells G g' U (kr_up Z (40, q) (some (kr_it (gA g) (1, 1) (nI n) lr (gM g (1, 1))))) (40, q) = some (kr_it (gA g') (1, 1) (nI n) lr (gM g' (1, 1))) := by rw [kc_Zt, kr_up_s, kr_it_cg e11.1, e11.2]
      have hl1 : kr_cells G g' U (kr_up Z (40, q) (some (kr_it (gA g) (1, 1) (nI n) lr (gM g (1, 1))))) (1, 1) = kr_li g' (1, 1) ((List.range (sN S 1 0)).map fun i => gA g' (5, i)) := by rw [kc_l1, hK]
      rw [← e40 q]
      refine kj_aload_n X dX1_watch_10 rfl rfl (by first | exact ⟨some _, rfl⟩ | exact ⟨none, rfl⟩ | exact ⟨_, rfl⟩) ?_
      refine kj_callF X 0 (ct_J22_hasNext X.F (Or.inl ⟨_, hl1⟩) (by rw [hlen]; omega) (by rw [hlen]; omega) hj) q290 q294 q296 q81 q298 q292 q291 q297 q295 q293 ⟨by decide, by decide, by decide +kernel⟩ dX1_watch_11 rfl rfl (by first | exact Nat.le_of_ble_eq_true rfl | simp [kr_cat, Value.category]) ⟨Nat.le_of_ble_eq_true rfl, Nat.le_of_ble_eq_true rfl⟩ ⟨by dsimp only; omega, by dsimp only; omega⟩ kc_J22.1 (fun H h => h.rc (hj)) (fun E => kjx_no) (fun v_11 => ?_)
      refine kj_and (fun e_11 => ?_)
      subst e_11
      rw [hlen, show decide (n < sN S 1 0) = true from decide_eq_true hd]
      refine kj_if_eq X 141 dX1_watch_16 (by decide) (fun c_16 => ?_) (fun c_16 => ?_)
      · exact absurd c_16 (by decide)
      refine kj_aload_n X dX1_watch_19 rfl rfl (by first | exact ⟨some _, rfl⟩ | exact ⟨none, rfl⟩ | exact ⟨_, rfl⟩) ?_
      refine kj_callF X 0 (ct_J22_next X.F hl1 (a := gA g' (5, n)) (by rw [List.getElem?_map, List.getElem?_range hd]; rfl) hj) q300 q303 q305 q81 q307 q302 q301 q306 q304 q293 ⟨by decide, by decide, by decide +kernel⟩ dX1_watch_20 rfl rfl (by first | exact Nat.le_of_ble_eq_true rfl | simp [kr_cat, Value.category]) ⟨Nat.le_of_ble_eq_true rfl, Nat.le_of_ble_eq_true rfl⟩ ⟨by dsimp only; omega, by dsimp only; omega⟩ kc_J22.1 (fun H h => h.rc (hj)) (fun E => kjx_no) (fun v_20 => ?_)
      refine kj_and (fun e_20 => ?_)
      subst e_20
      rw [kc_upt, kr_up_up, kr_it_cg e11.1, e11.2]
      generalize hZ1 : kr_up Z (40, q) (some (kr_it (gA g) (1, 1) (nI (n + 1)) (nI n) (gM g (1, 1)))) = Z1 at nxt ⊢
      refine kj_ccastR X kc_X15.1 q404 dX1_watch_25 (fun H h => h.at (kc_5 hdU)) ?_
      refine kj_astore_n (lv' := [_, _, _, _, _, _]) X dX1_watch_28 rfl (by decide) (by intro w h _; cases h <;> first | rfl | exact kr_cat _) (by first | exact ⟨some _, rfl⟩ | exact ⟨none, rfl⟩ | exact ⟨_, rfl⟩) rfl ?_
      refine kj_aload_n X dX1_watch_29 rfl rfl (by first | exact ⟨some _, rfl⟩ | exact ⟨none, rfl⟩ | exact ⟨_, rfl⟩) ?_
      refine kj_dup X dX1_watch_30 (by first | rfl | exact kr_cat _) ?_
      refine kj_getN X kc_X15 5 (by decide) q1074 rfl dX1_watch_31 (fun H h => h.own (kc_5 hdU)) rfl ?_
      refine kj_aload_n X dX1_watch_34 rfl rfl (by first | exact ⟨some _, rfl⟩ | exact ⟨none, rfl⟩ | exact ⟨_, rfl⟩) ?_
      refine kj_getN X kc_X15 3 (by decide) q1072 rfl dX1_watch_35 (fun H h => h.own (kc_5 hdU)) rfl ?_
      have h6b := (hPU.1.2.1 n hdU).2.1
      have h46 : kr_J G x 6 Q (kr_S G (gA g') (kr_cells G g' U Z1)) (cs + 0 + 0) (ss + 0 + 0) 46 [some (.ref (gA g (0, 0))), some (.ref (gA g' (40, q))), some (.ref (gA g' (5, n))), v3, v4, v5] [.int (nI (sN U 6 n)), .int (sI U 3 n), .ref (gA g' (5, n))] := by
        refine kj_iadd X dX1_watch_46 ?_
        refine kj_putN X kc_X15 5 (by decide) q1074 rfl rfl dX1_watch_47 (by first | rfl | exact kr_nar _ _ | exact kr_narb _) (by first | rfl | exact kr_fitr _ _ | exact kr_fitb _) (Nat.le_of_ble_eq_true rfl) (fun H h => h.own (kc_5 hdU)) (fun H H1 h a u => h.upd (kc_5 hdU) (ku_frozen hdU) a u) ?_
        refine kj_P (P' := kr_S G (gA g') (kr_cells G g' (oFz U n) Z1)) (fun H h => h) ?_
        have hdF : n < sN (oFz U n) 1 0 := hdU
        refine kj_aload_n X dX1_watch_50 rfl rfl (by first | exact ⟨some _, rfl⟩ | exact ⟨none, rfl⟩ | exact ⟨_, rfl⟩) ?_
        refine kj_getN X kc_X15 5 (by decide) q1074 rfl dX1_watch_51 (fun H h => h.own (kc_5 hdF)) rfl ?_
        refine kj_iconst (v := 5) X dX1_watch_54 (by decide) ?_
        refine kj_icmp_lt X 138 dX1_watch_55 (by decide) (fun c_55 => ?_) (fun c_55 => ?_)
        · have eo : oWatch1 U n = oFz U n := if_neg (fun z => absurd c_55 (Int32.not_lt.mpr z.1))
          rw [eo] at nxt
          rw [e5, e40 q]
          exact nxt g' _ _ _ _ _ _ hs hok (by omega) (by omega)
        have h5 : 5 ≤ sI (oFz U n) 3 n := Int32.not_lt.mp c_55
        refine kj_aload_n X dX1_watch_58 rfl rfl (by first | exact ⟨some _, rfl⟩ | exact ⟨none, rfl⟩ | exact ⟨_, rfl⟩) ?_
        refine kj_getN X kc_X15 4 (by decide) q1073 rfl dX1_watch_59 (fun H h => h.own (kc_5 hdF)) rfl ?_
        refine kj_if_ne X 138 dX1_watch_62 (by decide) (fun c_62 => ?_) (fun c_62 => ?_)
        · have eo : oWatch1 U n = oFz U n := if_neg (fun z => c_62 (by show nI (sN U 7 n) = 0; rw [z.2]; rfl))
          rw [eo] at nxt
          rw [e5, e40 q]
          exact nxt g' _ _ _ _ _ _ hs hok (by omega) (by omega)
        have h7 : sN U 7 n = 0 := (nI_eq (b := 0) (by have := (hPU.1.2.1 n hdU).2.2; show sN U 7 n < _; omega) (by omega)).mp c_62
        have eo : oWatch1 U n = oOut (oFz U n) n := if_pos ⟨h5, h7⟩
        rw [eo] at nxt
        refine kj_aload_n X dX1_watch_65 rfl rfl (by first | exact ⟨some _, rfl⟩ | exact ⟨none, rfl⟩ | exact ⟨_, rfl⟩) ?_
        refine kj_iconst (v := 1) X dX1_watch_66 (by decide) ?_
        refine kj_putN X kc_X15 4 (by decide) q1073 rfl rfl dX1_watch_67 (by first | rfl | exact kr_nar _ _ | exact kr_narb _) (by first | rfl | exact kr_fitr _ _ | exact kr_fitb _) (Nat.le_of_ble_eq_true rfl) (fun H h => h.own (kc_5 hdF)) (fun H H1 h a u => h.upd (kc_5 hdF) (ku_ou (v := 1) hdF) a u) ?_
        have hdO : n < sN (uN (oFz U n) 7 n 1) 1 0 := hdU
        have hlen2 : (sL U 2 n).length ≤ 6 := hPU.1.le hVU.1.2.1 hdU
        have hlm : ∀ f : Nat → Nat, (List.map f (sL U 2 n)).length = (sL U 2 n).length := fun f => List.length_map ..
        have k6 : ∀ Z2, kr_cells G g' (uN (oFz U n) 7 n 1) Z2 (6, n) = some (.inr ((sL U 2 n).map (fun i => gA g (7, i)), gM g' (6, n), gC g' (6, n))) := fun Z2 => by
          rw [kc_6 hdO, show (fun i => gA g' (7, i)) = (fun i => gA g (7, i)) from funext e7]
          rfl
        refine kj_new (Pn := fun q H => Z1 (40, q) = none ∧ kr_S G (gA g') (kr_cells G g' (uN (oFz U n) 7 n 1) (kr_up Z1 (40, q) (kr_o 17 [.int 0, .null, .int 0]))) H) (fs := [.int 0, .null, .int 0]) X kc_J2 q97 q98 q46 (fun j hj => by rcases (show j = 0 ∨ j = 1 ∨ j = 2 by omega) with rfl | rfl | rfl <;> rfl) dX1_watch_70 (by first | omega | (dsimp only; omega)) (by first | omega | (dsimp only; omega)) (fun H H1 h ho a u => h.mk hok.1 a ho u) (fun q_70 => ?_)
        refine kj_and (fun h_q_70 => ?_)
        rw [show (Value.ref q_70) = Value.ref (gA g' (40, q_70)) from by rw [(hok.1 q_70).1]]
        refine kj_dup X dX1_watch_73 (by first | rfl | exact kr_cat _) ?_
        refine kj_aload_n X dX1_watch_74 rfl rfl (by first | exact ⟨some _, rfl⟩ | exact ⟨none, rfl⟩ | exact ⟨_, rfl⟩) ?_
        refine kj_getN X kc_X15 1 (by decide) q1069 rfl dX1_watch_75 (fun H h => h.own (kc_5 hdO)) rfl ?_
        have k3 : kr_cells G g' (uN (oFz U n) 7 n 1) (kr_up Z1 (40, q_70) (kr_o 17 [.int 0, .null, .int 0])) (40, q_70) = kr_o 17 [.int 0, .null, .int 0] := by rw [kc_Zt, kr_up_s]
        refine kj_callI X 1 (ct_J2_init_2 X.F hok.1 (k6 _) k3 rfl) q1407 q46 q1405 q1406 rfl ⟨by decide, by decide, by decide +kernel⟩ dX1_watch_78 rfl rfl (by first | exact Nat.le_of_ble_eq_true rfl | simp [kr_cat, Value.category]) ⟨Nat.le_of_ble_eq_true rfl, Nat.le_of_ble_eq_true rfl⟩ ⟨by dsimp only; omega, by dsimp only; rw [hlm]; omega⟩ (fun E => kjx_no) (fun v_78 => ?_)
        refine kj_open (fun e3 he3 => ?_)
        obtain ⟨hv, he3⟩ := he3
        subst hv
        rw [kc_upt, kr_up_up]
        refine kj_astore_n (lv' := [_, _, _, _, _, _]) X dX1_watch_81 rfl (by decide) (by intro w h _; cases h <;> first | rfl | exact kr_cat _) (by first | exact ⟨some _, rfl⟩ | exact ⟨none, rfl⟩ | exact ⟨_, rfl⟩) rfl ?_
        have he3' : (sL U 2 n ≠ [] ∧ e3 = some (.inr ((sL U 2 n).map (fun i => gA g (7, i)), 0, (sL U 2 n).length))) ∨ (sL U 2 n = [] ∧ e3 = kr_o 17 [.int 0, .ref (kg_e1 G), .int 0]) := by
          dsimp only at he3
          rw [hlm] at he3
          rcases he3 with ⟨a, b⟩ | ⟨a, b⟩
          · exact Or.inl ⟨fun z => a (by rw [z]; rfl), b⟩
          · exact Or.inr ⟨List.map_eq_nil_iff.mp a, b⟩
        refine kj_aload_n X dX1_watch_82 rfl rfl (by first | exact ⟨some _, rfl⟩ | exact ⟨none, rfl⟩ | exact ⟨_, rfl⟩) ?_
        refine kj_getN X kc_X15 1 (by decide) q1069 rfl dX1_watch_83 (fun H h => h.own (kc_5 hdO)) rfl ?_
        refine kj_callF X 0 (ct_J2_clear X.F (k6 _)) q1430 q1433 q1435 q46 q1437 q1432 q1431 q1436 q1434 q148 ⟨by decide, by decide, by decide +kernel⟩ dX1_watch_86 rfl rfl (by first | exact Nat.le_of_ble_eq_true rfl | simp [kr_cat, Value.category]) ⟨Nat.le_of_ble_eq_true rfl, Nat.le_of_ble_eq_true rfl⟩ ⟨by dsimp only; omega, by dsimp only; rw [hlm]; omega⟩ kc_J2.1 (fun H h => h.list (k6 _)) (fun E => kjx_no) (fun v_86 => ?_)
        refine kj_and (fun e_86 => ?_)
        subst e_86
        refine kj_P (P' := kr_S G (gA (gL g' (6, n) (gM g' (6, n) + 1) (gC g' (6, n)))) (kr_cells G (gL g' (6, n) (gM g' (6, n) + 1) (gC g' (6, n))) (uL (uN (oFz U n) 7 n 1) 2 n []) (kr_up Z1 (40, q_70) e3))) (fun H h => by rw [← kl_6 (S := uN (oFz U n) 7 n 1) hdO]; exact h) ?_
        have hs2 : kr_gsm [6] g (gL g' (6, n) (gM g' (6, n) + 1) (gC g' (6, n))) := hs.tr (kr_gsm_gL (r := (6, n))) (by simp) (by simp)
        have hok2 : kr_gok (gL g' (6, n) (gM g' (6, n) + 1) (gC g' (6, n))) := kr_gok_gL hok (hok.2.1 _)
        rw [show gA g' (40, q_70) = gA (gL g' (6, n) (gM g' (6, n) + 1) (gC g' (6, n))) (40, q_70) from rfl]
        have e40' : ∀ q, gA (gL g' (6, n) (gM g' (6, n) + 1) (gC g' (6, n))) (40, q) = gA g (40, q) := e40
        have e5' : gA (gL g' (6, n) (gM g' (6, n) + 1) (gC g' (6, n))) (5, n) = gA g (5, n) := e5
        generalize gL g' (6, n) (gM g' (6, n) + 1) (gC g' (6, n)) = g2 at *
        have hl3 : kr_lst (kr_cells G g2 (uL (uN (oFz U n) 7 n 1) 2 n []) (kr_up Z1 (40, q_70) e3)) (40, q_70) ((sL U 2 n).map (fun i => gA g (7, i))) 0 := by
          have h3 : kr_cells G g2 (uL (uN (oFz U n) 7 n 1) 2 n []) (kr_up Z1 (40, q_70) e3) (40, q_70) = e3 := by rw [kc_Zt, kr_up_s]
          rcases he3' with ⟨_, e⟩ | ⟨e, e'⟩
          · exact Or.inl ⟨_, h3.trans e⟩
          · exact Or.inr ⟨by rw [e]; rfl, _, h3.trans e'⟩
        refine kj_aload_n X dX1_watch_91 rfl rfl (by first | exact ⟨some _, rfl⟩ | exact ⟨none, rfl⟩ | exact ⟨_, rfl⟩) ?_
        refine kj_callF X 0 (ct_J2_iterator X.F hok2.1 hl3) q262 q265 q267 q46 q269 q264 q263 q268 q266 q148 ⟨by decide, by decide, by decide +kernel⟩ dX1_watch_92 rfl rfl (by first | exact Nat.le_of_ble_eq_true rfl | simp [kr_cat, Value.category]) ⟨Nat.le_of_ble_eq_true rfl, Nat.le_of_ble_eq_true rfl⟩ ⟨by dsimp only; omega, by dsimp only; rw [hlm]; omega⟩ kc_J2.1 (fun H h => by obtain ⟨d9, hd9⟩ := hl3.own h; exact ⟨_, hd9.1⟩) (fun E => kjx_no) (fun v_92 => ?_)
        refine kj_open (fun q4 hq4 => ?_)
        obtain ⟨hv, hq4⟩ := hq4
        subst hv
        rw [kc_Zt] at hq4
        rw [kc_upt]
        have hne4 : q4 ≠ q_70 := fun z => by
          rw [z, kr_up_s] at hq4
          rcases he3' with ⟨_, e⟩ | ⟨_, e⟩ <;> rw [e] at hq4 <;> cases hq4
        rw [show (some (Value.ref q4)).toList = [Value.ref (gA g (40, q4))] from by rw [(hg.1 q4).1]; rfl]
        rw [kr_it_cg (e40' q_70)]
        refine kj_astore (lv' := [_, _, _, _, _, _]) X dX1_watch_97 (by decide) (by intro w h _; cases h <;> first | rfl | exact kr_cat _) (by first | exact ⟨some _, rfl⟩ | exact ⟨none, rfl⟩ | exact ⟨_, rfl⟩) rfl ?_
        rw [e5, e40 q]
        have hPw := kr_Pw.begin (S := oFz U n) (k := n) hPU.1 hdU (fun j hj hjn => by rw [oFz_I, if_neg hjn]; exact hPU.2 j hj)
        refine kj_going X ⟨by dsimp only; omega, by dsimp only; omega⟩ (n := n) (C := cs + 9) (D := ss + 73) (xs := sL U 2 n) (q3 := q_70) (q4 := q4) (e3 := e3) ⟨by dsimp only; omega, by dsimp only; omega⟩ he3' hne4 kr_up_s hlen2 (T := oOut (oFz U n) n) hg (fun g3 cs3 ss3 lr3 v53 a1 a2 a3 a4 => ?_) (sL U 2 n).length 0 g2 (uL (uN (oFz U n) 7 n 1) 2 n []) (-1) v5 _ _ (by omega) hs2 hok2 ((oFz_V hVU n).outk n) hPw rfl (by omega) (by rw [hlm]; omega)
        refine kj_P (fun H h => ?_) (nxt g3 _ _ _ _ cs3 ss3 a1 a2 a3 a4)
        exact kr_S.tidy (kr_S.tidy h hq4) h_q_70
      refine kj_if_eq X 45 dX1_watch_38 (by decide) (fun c_38 => ?_) (fun c_38 => ?_)
      · have e6 : sN U 6 n = 0 := (nI_eq (b := 0) (by omega) (by omega)).mp c_38
        rw [e6] at h46
        refine kj_iconst (v := 0) X dX1_watch_45 (by decide) ?_
        exact h46
      · have e6 : sN U 6 n = 1 := by
          have : sN U 6 n ≠ 0 := fun z => c_38 (by rw [z]; rfl)
          omega
        rw [e6] at h46
        refine kj_iconst (v := 1) X dX1_watch_41 (by decide) ?_
        refine kj_goto X 46 dX1_watch_42 (by decide) ?_
        exact h46
  exact loop (sN S 1 0) 0 g (-1) none none none none 1 4 (by omega) kr_gsm.rf hg (by omega) (by omega)
end
