/-! STOP: the walk -/
set_option maxRecDepth 100000
section
variable {G : kr_G} {l : Launch} {g g' : kr_Gh} {S S' : kr_St} {Z Z' : kr_Ro → Option kr_AE}
theorem ct_X1_stop (hF : kr_F G l) (hg : kr_gok g) (hV : kr_V S) (hP : kr_Pl S) (hZ : ∀ r z, Z r ≠ some (.inr z)) (i : Int32) : kr_T G l yX1_stop (ws_ yX1_stop cX1_stop 7 (Option.some Jvm.ClassFile.FieldType.int)) 11 3300 [.ref (gA g (0, 0)), .int i] (kr_S G (gA g) (kr_cells G g S Z)) 5 21 (fun v H => ∃ k, (i = nI k ∧ k < sN S 1 0 ∧ sN S 3 k = 1 ∧ v = some (.int (nI (nHeld S k)))) ∧ kr_Hx G [6, 12] g (oStop S k) Z H) (fun E H => kx_P S i E ∧ kr_S G (gA g) (kr_cells G g S Z) H) := by
  have hK6 : sN S 1 0 ≤ 6 := hV.1.2.1
  have hD : sN S 14 0 = 6 := hV.1.2.2.2
  refine kr_T.of (by decide +kernel) hF (by simp [Value.category]) (Nat.le_of_ble_eq_true rfl) (fun x hx X => ?_)
  refine kj_aload_n X dX1_stop_0 rfl rfl (by first | exact ⟨some _, rfl⟩ | exact ⟨none, rfl⟩ | exact ⟨_, rfl⟩) ?_
  refine kj_iload_n X dX1_stop_1 rfl rfl ?_
  refine kj_callV X 1 (ct_X1_playerOf X.F i hK6) (lw_V q1189 q1191 qs13 q43 q1192) ⟨rfl, by decide, by decide, by decide +kernel⟩ dX1_stop_2 rfl rfl (by first | exact Nat.le_of_ble_eq_true rfl | simp [kr_cat, Value.category]) ⟨Nat.le_of_ble_eq_true rfl, Nat.le_of_ble_eq_true rfl⟩ ⟨by dsimp only; omega, by dsimp only; omega⟩ kc_X1.1 (fun H h => h.rc (kc_kio)) (fun E => kjx_out X (by omega) (by omega) (fun H h => h)) (fun v_2 => ?_)
  refine kj_open (fun k hk => ?_)
  obtain ⟨rfl, hk, ho, rfl⟩ := hk
  have hp : sN S 15 k = 1 := (hP.1.1 k).mpr ⟨hk, ho⟩
  obtain ⟨-, -, -, p4, -⟩ := hV.2.2.2.2.1 k hp
  obtain ⟨hVF, hPF, -⟩ := oStop_ok hV hP hp
  have fin : ∀ g' cs ss lv, kr_gsm [6, 12] g g' → kr_gok g' → cs ≤ 5 → ss ≤ 21 → kr_J G x 7 (kr_Q G x 5 21 (fun v H => ∃ k', (nI k = nI k' ∧ k' < sN S 1 0 ∧ sN S 3 k' = 1 ∧ v = some (.int (nI (nHeld S k')))) ∧ kr_Hx G [6, 12] g (oStop S k') Z H) (fun E H => kx_P S (nI k) E ∧ kr_S G (gA g) (kr_cells G g S Z) H)) (kr_S G (gA g') (kr_cells G g' (oStopD k (uN (oLeave S k) 3 k 0) (sN S 14 0)) Z)) cs ss 103 lv [.int (nI (nHeld S k))] := by
    intro g' cs ss lv h1 h2 h3 h4
    exact kj_iret X dX1_stop_103 (by omega) (by omega) (fun H h => ⟨k, ⟨rfl, hk, ho, rfl⟩, kr_Hx.of (kr_S.gone h h2 hVF hZ) h1 h2⟩)
  generalize kr_Q G x 5 21 (fun v H => ∃ k', (nI k = nI k' ∧ k' < sN S 1 0 ∧ sN S 3 k' = 1 ∧ v = some (.int (nI (nHeld S k')))) ∧ kr_Hx G [6, 12] g (oStop S k') Z H) (fun E H => kx_P S (nI k) E ∧ kr_S G (gA g) (kr_cells G g S Z) H) = Q at fin ⊢
  refine kj_astore_n (lv' := [_, _, _, _, _, _, _]) X dX1_stop_5 rfl (by decide) (by intro w h _; cases h <;> first | rfl | exact kr_cat _) (by first | exact ⟨some _, rfl⟩ | exact ⟨none, rfl⟩ | exact ⟨_, rfl⟩) rfl ?_
  refine kj_aload_n X dX1_stop_6 rfl rfl (by first | exact ⟨some _, rfl⟩ | exact ⟨none, rfl⟩ | exact ⟨_, rfl⟩) ?_
  refine kj_aload_n X dX1_stop_7 rfl rfl (by first | exact ⟨some _, rfl⟩ | exact ⟨none, rfl⟩ | exact ⟨_, rfl⟩) ?_
  refine kj_callV X 1 (ct_X1_leave X.F hg hp (fun j hj => ⟨by omega, hV.2.1.1 j (by omega)⟩) _) (lw_V q1198 q1200 qs14 q43 q1201) ⟨rfl, by decide, by decide, by decide +kernel⟩ dX1_stop_8 rfl rfl (by first | exact Nat.le_of_ble_eq_true rfl | simp [kr_cat, Value.category]) ⟨Nat.le_of_ble_eq_true rfl, Nat.le_of_ble_eq_true rfl⟩ ⟨by dsimp only; omega, by dsimp only; omega⟩ kc_X1.1 (fun H h => h.rc (kc_kio)) (fun E => kjx_no) (fun v_8 => ?_)
  refine kj_and (fun e_8 => ?_)
  subst e_8
  refine kj_open (fun g1 hg1 => ?_)
  obtain ⟨hs1, hok1⟩ := hg1
  have f0 : gA g1 (0, 0) = gA g (0, 0) := (hs1 (0, 0) (by decide)).1
  have f7 : gA g1 (7, k) = gA g (7, k) := (hs1 (7, k) (by show (7 : Nat) ∉ [6]; decide)).1
  rw [← f0, ← f7]
  have hkL : k < sN (oLeave S k) 1 0 := by rw [oLeave_N]; exact hk
  refine kj_aload_n X dX1_stop_11 rfl rfl (by first | exact ⟨some _, rfl⟩ | exact ⟨none, rfl⟩ | exact ⟨_, rfl⟩) ?_
  refine kj_get X kc_X1 1 (by decide) q227 (Or.inl rfl) dX1_stop_12 (fun H h => h.own (kc_kio)) rfl ?_
  refine kj_iload_n X dX1_stop_15 rfl rfl ?_
  refine kj_callF X 1 (ct_J2_get X.F kc_l1 (k := k) (a := gA g1 (5, k)) (by rw [List.getElem?_map, List.getElem?_range hkL]; rfl)) q587 q590 q592 q46 q594 q589 q588 q593 q591 q148 ⟨by decide, by decide, by decide +kernel⟩ dX1_stop_16 rfl rfl (by first | exact Nat.le_of_ble_eq_true rfl | simp [kr_cat, Value.category]) ⟨Nat.le_of_ble_eq_true rfl, Nat.le_of_ble_eq_true rfl⟩ ⟨by dsimp only; omega, by dsimp only; omega⟩ kc_J2.1 (fun H h => h.list (kc_l1)) (fun E => kjx_no) (fun v_16 => ?_)
  refine kj_and (fun e_16 => ?_)
  subst e_16
  refine kj_ccastR X kc_X15.1 q404 dX1_stop_21 (fun H h => h.at (kc_5 hkL)) ?_
  refine kj_null X dX1_stop_24 ?_
  refine kj_putN X kc_X15 2 (by decide) q1071 rfl rfl dX1_stop_25 (by first | rfl | exact kr_nar _ _ | exact kr_narb _) (by first | rfl | exact kr_fitr _ _ | exact kr_fitb _) (Nat.le_of_ble_eq_true rfl) (fun H h => h.own (kc_5 hkL)) (fun H H1 h a u => h.upd (kc_5 hkL) (ku_own (v := 0) hkL) a u) ?_
  have hV1 : kr_V (uN (oLeave S k) 3 k 0) := (hV.leave k).own
  have hp1 : sN (uN (oLeave S k) 3 k 0) 15 k = 1 := by rw [sN_uN, if_neg (fun z => absurd z.1 (by decide)), oLeave_N]; exact hp
  have e9 : ∀ d, sN (uN (oLeave S k) 3 k 0) 9 d = sN S 9 d := fun d => by rw [sN_uN, if_neg (fun z => absurd z.1 (by decide)), oLeave_N]
  have e14 : sN (uN (oLeave S k) 3 k 0) 14 0 = sN S 14 0 := by rw [sN_uN, if_neg (fun z => absurd z.1 (by decide)), oLeave_N]
  have ehd : (List.range (sN (uN (oLeave S k) 3 k 0) 14 0)).countP (fHold (uN (oLeave S k) 3 k 0) k) = nHeld S k := by
    unfold nHeld
    rw [e14]
    exact kr_countP_same (fun d => by unfold fHold; rw [e9]) _
  generalize uN (oLeave S k) 3 k 0 = S1 at *
  have hho : ∀ d, d < sN S1 14 0 → ∀ j, sN S1 9 d = j + 1 → sN S1 15 j = 1 := fun d hd => (hV1.2.2.2.2.2.1 d (by omega)).1
  refine kj_aload_n X dX1_stop_28 rfl rfl (by first | exact ⟨some _, rfl⟩ | exact ⟨none, rfl⟩ | exact ⟨_, rfl⟩) ?_
  refine kj_aload_n X dX1_stop_29 rfl rfl (by first | exact ⟨some _, rfl⟩ | exact ⟨none, rfl⟩ | exact ⟨_, rfl⟩) ?_
  refine kj_indy X (k := 3) (by decide) (by decide +kernel) (by decide +kernel) kr_lok_3 (by decide +kernel) (vals := [.ref (gA g1 (7, k))]) (rest := [.ref (gA g1 (0, 0))]) (Pn := fun q H => Z (40, q) = none ∧ kr_S G (gA g1) (kr_cells G g1 S1 (kr_up Z (40, q) (kr_lam 3 [.ref (gA g1 (7, k))]))) H) (by decide +kernel) dX1_stop_30 rfl (by show 1 = (kr_shp 3).captured.length; decide +kernel) (by first | exact kr_fitP (by decide +kernel) | exact kr_fitK (by decide +kernel) | exact kr_fit2) ⟨Nat.le_of_ble_eq_true rfl, Nat.le_of_ble_eq_true rfl⟩ ⟨by dsimp only; omega, by dsimp only [List.length]; omega⟩ (fun H H1 h ho a u => h.mk hok1.1 a ho u) (fun q_30 => ?_)
  refine kj_and (fun h_q_30 => ?_)
  rw [show ([.ref (gA g1 (7, k))] : List Value).length = 1 from rfl]
  refine kj_callV X 1 (ct_X1_countDevices X.F hok1 (by omega) (hr_stop X.F hok1.1 hp1 hho)) (lw_V q257 q259 qs3 q43 q260) ⟨rfl, by decide, by decide, by decide +kernel⟩ dX1_stop_35 rfl rfl (by first | exact Nat.le_of_ble_eq_true rfl | simp [kr_cat, Value.category]) ⟨Nat.le_of_ble_eq_true rfl, Nat.le_of_ble_eq_true rfl⟩ ⟨by dsimp only; omega, by dsimp only; omega⟩ kc_X1.1 (fun H h => h.rc (kc_kio)) (fun E => kjx_no) (fun v_35 => ?_)
  refine kj_and (fun e_35 => ?_)
  subst e_35
  refine kj_P (P' := kr_S G (gA g1) (kr_cells G g1 S1 Z)) (fun H h => h.tidy h_q_30) ?_
  rw [ehd]
  refine kj_istore_n (lv' := [_, _, _, _, _, _, _]) X dX1_stop_38 rfl (by decide) (by intro w h _; cases h <;> first | rfl | exact kr_cat _) rfl ?_
  refine kj_aload_n X dX1_stop_39 rfl rfl (by first | exact ⟨some _, rfl⟩ | exact ⟨none, rfl⟩ | exact ⟨_, rfl⟩) ?_
  refine kj_get X kc_X1 2 (by decide) q230 (Or.inl rfl) dX1_stop_40 (fun H h => h.own (kc_kio)) rfl ?_
  refine kj_callF X 0 (ct_J2_iterator X.F hok1.1 (Or.inl ⟨_, kc_l2⟩)) q262 q265 q267 q46 q269 q264 q263 q268 q266 q148 ⟨by decide, by decide, by decide +kernel⟩ dX1_stop_43 rfl rfl (by first | exact Nat.le_of_ble_eq_true rfl | simp [kr_cat, Value.category]) ⟨Nat.le_of_ble_eq_true rfl, Nat.le_of_ble_eq_true rfl⟩ ⟨by dsimp only; omega, by dsimp only; omega⟩ kc_J2.1 (fun H h => h.list (kc_l2)) (fun E => kjx_no) (fun v_43 => ?_)
  refine kj_open (fun q hq => ?_)
  obtain ⟨hv, hq0⟩ := hq
  subst hv
  rw [kc_Zt] at hq0
  rw [kc_upt, show (some (Value.ref q)).toList = [Value.ref (gA g (40, q))] from by rw [(hg.1 q).1]; rfl]
  refine kj_astore (lv' := [_, _, _, _, _, _, _]) X dX1_stop_48 (by decide) (by intro w h _; cases h <;> first | rfl | exact kr_cat _) (by first | exact ⟨some _, rfl⟩ | exact ⟨none, rfl⟩ | exact ⟨_, rfl⟩) rfl ?_
  have hlen : ∀ g' : kr_Gh, ((List.range (sN S 14 0)).map fun i => gA g' (11, i)).length = sN S 14 0 := fun g' => by rw [List.length_map, List.length_range]
  have c11 : gA g1 (1, 2) = gA g (1, 2) ∧ gM g1 (1, 2) = gM g (1, 2) := hs1 (1, 2) (by decide)
  rw [f0, f7, kr_it_cg c11.1, c11.2]
  have loop : ∀ m n g' lr v5 v6 cs ss, n + m = sN S 14 0 → kr_gsm [6, 12] g g' → kr_gok g' → cs ≤ 5 → ss ≤ 21 → kr_J G x 7 Q (kr_S G (gA g') (kr_cells G g' (oStopD k S1 n) (kr_up Z (40, q) (some (kr_it (gA g) (1, 2) (nI n) lr (gM g (1, 2))))))) cs ss 50 [some (.ref (gA g (0, 0))), some (.int (nI k)), some (.ref (gA g (7, k))), some (.int (nI (nHeld S k))), some (.ref (gA g (40, q))), v5, v6] [] := by
    intro m
    induction m with
    | zero =>
      intro n g' lr v5 v6 cs ss hn hs hok h1 h2
      obtain rfl : n = sN S 14 0 := by omega
      have hK : sN (oStopD k S1 (sN S 14 0)) 14 0 = sN S 14 0 := (oStopD_N k S1 14 0 (by decide) (by decide) _).trans e14
      have e40 : gA g' (40, q) = gA g (40, q) := (hs (40, q) (by show (40 : Nat) ∉ [6, 12]; decide)).1
      have e11 : gA g' (1, 2) = gA g (1, 2) ∧ gM g' (1, 2) = gM g (1, 2) := hs (1, 2) (by decide)
      have fin' := fin g'
      generalize oStopD k S1 (sN S 14 0) = U at *
      have hj : kr_cells G g' U (kr_up Z (40, q) (some (kr_it (gA g) (1, 2) (nI (sN S 14 0)) lr (gM g (1, 2))))) (40, q) = some (kr_it (gA g') (1, 2) (nI (sN S 14 0)) lr (gM g' (1, 2))) := by rw [kc_Zt, kr_up_s, kr_it_cg e11.1, e11.2]
      have hl1 : kr_cells G g' U (kr_up Z (40, q) (some (kr_it (gA g) (1, 2) (nI (sN S 14 0)) lr (gM g (1, 2))))) (1, 2) = kr_li g' (1, 2) ((List.range (sN S 14 0)).map fun i => gA g' (11, i)) := by rw [kc_l2, hK]
      rw [← e40]
      refine kj_aload X dX1_stop_50 rfl (by first | exact ⟨some _, rfl⟩ | exact ⟨none, rfl⟩ | exact ⟨_, rfl⟩) ?_
      refine kj_callF X 0 (ct_J22_hasNext X.F (Or.inl ⟨_, hl1⟩) (by rw [hlen]; omega) (by rw [hlen]; omega) hj) q290 q294 q296 q81 q298 q292 q291 q297 q295 q293 ⟨by decide, by decide, by decide +kernel⟩ dX1_stop_52 rfl rfl (by first | exact Nat.le_of_ble_eq_true rfl | simp [kr_cat, Value.category]) ⟨Nat.le_of_ble_eq_true rfl, Nat.le_of_ble_eq_true rfl⟩ ⟨by dsimp only; omega, by dsimp only; omega⟩ kc_J22.1 (fun H h => h.rc (hj)) (fun E => kjx_no) (fun v_52 => ?_)
      refine kj_and (fun e_52 => ?_)
      subst e_52
      rw [hlen, show decide (sN S 14 0 < sN S 14 0) = false from decide_eq_false (Nat.lt_irrefl _)]
      refine kj_if_eq X 102 dX1_stop_57 (by decide) (fun c_57 => ?_) (fun c_57 => ?_)
      · refine kj_iload_n X dX1_stop_102 rfl rfl ?_
        exact kj_P (fun H h => h.tidy hq0) (fin' _ _ _ hs hok (by omega) (by omega))
      · exact absurd rfl c_57
    | succ m ih =>
      intro n g' lr v5 v6 cs ss hn hs hok h1 h2
      have hd : n < sN S 14 0 := by omega
      obtain ⟨⟨b, hVU⟩, -⟩ := oStopD_ok (p := k) (b := sN S1 8 k) (U := S1) (by rw [uN_same]; exact hV1) hp1 n (by omega)
      have hK : sN (oStopD k S1 n) 14 0 = sN S 14 0 := (oStopD_N k S1 14 0 (by decide) (by decide) _).trans e14
      have hp2 : sN (oStopD k S1 n) 15 k = 1 := (oStopD_N k S1 15 k (by decide) (by decide) _).trans hp1
      have nxt := fun g2 => ih (n + 1) g2 (nI n)
      rw [show oStopD k S1 (n + 1) = oStop1 k (oStopD k S1 n) n from rfl] at nxt
      generalize oStopD k S1 n = U at *
      have hdU : n < sN U 14 0 := by omega
      have hmem : ∀ q ∈ sL U 3 n, sN U 15 q = 1 := hVU.2.1.2.1 n hdU
      have hdev := hVU.2.2.2.2.2.1 n (by omega)
      have hlq : (sL U 3 n).length ≤ 6 := hdev.2.2
      have e0 : gA g' (0, 0) = gA g (0, 0) := (hs (0, 0) (by decide)).1
      have e7 : gA g' (7, k) = gA g (7, k) := (hs (7, k) (by show (7 : Nat) ∉ [6, 12]; decide)).1
      have e40 : ∀ q, gA g' (40, q) = gA g (40, q) := fun q => (hs (40, q) (by show (40 : Nat) ∉ [6, 12]; decide)).1
      have e11 : gA g' (1, 2) = gA g (1, 2) ∧ gM g' (1, 2) = gM g (1, 2) := hs (1, 2) (by decide)
      have hj : kr_cells G g' U (kr_up Z (40, q) (some (kr_it (gA g) (1, 2) (nI n) lr (gM g (1, 2))))) (40, q) = some (kr_it (gA g') (1, 2) (nI n) lr (gM g' (1, 2))) := by rw [kc_Zt, kr_up_s, kr_it_cg e11.1, e11.2]
      have hl1 : kr_cells G g' U (kr_up Z (40, q) (some (kr_it (gA g) (1, 2) (nI n) lr (gM g (1, 2))))) (1, 2) = kr_li g' (1, 2) ((List.range (sN S 14 0)).map fun i => gA g' (11, i)) := by rw [kc_l2, hK]
      rw [← e40 q]
      refine kj_aload X dX1_stop_50 rfl (by first | exact ⟨some _, rfl⟩ | exact ⟨none, rfl⟩ | exact ⟨_, rfl⟩) ?_
      refine kj_callF X 0 (ct_J22_hasNext X.F (Or.inl ⟨_, hl1⟩) (by rw [hlen]; omega) (by rw [hlen]; omega) hj) q290 q294 q296 q81 q298 q292 q291 q297 q295 q293 ⟨by decide, by decide, by decide +kernel⟩ dX1_stop_52 rfl rfl (by first | exact Nat.le_of_ble_eq_true rfl | simp [kr_cat, Value.category]) ⟨Nat.le_of_ble_eq_true rfl, Nat.le_of_ble_eq_true rfl⟩ ⟨by dsimp only; omega, by dsimp only; omega⟩ kc_J22.1 (fun H h => h.rc (hj)) (fun E => kjx_no) (fun v_52 => ?_)
      refine kj_and (fun e_52 => ?_)
      subst e_52
      rw [hlen, show decide (n < sN S 14 0) = true from decide_eq_true hd]
      refine kj_if_eq X 102 dX1_stop_57 (by decide) (fun c_57 => ?_) (fun c_57 => ?_)
      · exact absurd c_57 (by decide)
      refine kj_aload X dX1_stop_60 rfl (by first | exact ⟨some _, rfl⟩ | exact ⟨none, rfl⟩ | exact ⟨_, rfl⟩) ?_
      refine kj_callF X 0 (ct_J22_next X.F hl1 (a := gA g' (11, n)) (by rw [List.getElem?_map, List.getElem?_range hd]; rfl) hj) q300 q303 q305 q81 q307 q302 q301 q306 q304 q293 ⟨by decide, by decide, by decide +kernel⟩ dX1_stop_62 rfl rfl (by first | exact Nat.le_of_ble_eq_true rfl | simp [kr_cat, Value.category]) ⟨Nat.le_of_ble_eq_true rfl, Nat.le_of_ble_eq_true rfl⟩ ⟨by dsimp only; omega, by dsimp only; omega⟩ kc_J22.1 (fun H h => h.rc (hj)) (fun E => kjx_no) (fun v_62 => ?_)
      refine kj_and (fun e_62 => ?_)
      subst e_62
      rw [kc_upt, kr_up_up, kr_it_cg e11.1, e11.2]
      generalize hZ1 : kr_up Z (40, q) (some (kr_it (gA g) (1, 2) (nI (n + 1)) (nI n) (gM g (1, 2)))) = Z1 at nxt ⊢
      refine kj_pure (φ := (sL U 3 n).map (fun i => gA g' (7, i)) |>.erase (gA g' (7, k)) |> (· = ((sL U 3 n).erase k).map (fun i => gA g' (7, i)))) (fun H h => (kr_map_mem h hmem hp2).2) (fun her => ?_)
      rw [← e7]
      refine kj_ccastR X kc_X2.1 q126 dX1_stop_67 (fun H h => h.at (kc_11 hdU)) ?_
      refine kj_astore (lv' := [_, _, _, _, _, _, _]) X dX1_stop_70 (by decide) (by intro w h _; cases h <;> first | rfl | exact kr_cat _) (by first | exact ⟨some _, rfl⟩ | exact ⟨none, rfl⟩ | exact ⟨_, rfl⟩) rfl ?_
      refine kj_aload X dX1_stop_72 rfl (by first | exact ⟨some _, rfl⟩ | exact ⟨none, rfl⟩ | exact ⟨_, rfl⟩) ?_
      refine kj_getN X kc_X2 0 (by decide) q135 rfl dX1_stop_74 (fun H h => h.own (kc_11 hdU)) rfl ?_
      refine kj_aload_n X dX1_stop_77 rfl rfl (by first | exact ⟨some _, rfl⟩ | exact ⟨none, rfl⟩ | exact ⟨_, rfl⟩) ?_
      refine kj_callF X 1 (ct_J2_remove_2 X.F (kc_12 hdU) (kc_7 hp2)) q1203 q1206 q1208 q46 q1210 q1205 q1204 q1209 q1207 q148 ⟨by decide, by decide, by decide +kernel⟩ dX1_stop_78 rfl rfl (by first | exact Nat.le_of_ble_eq_true rfl | simp [kr_cat, Value.category]) ⟨Nat.le_of_ble_eq_true rfl, Nat.le_of_ble_eq_true rfl⟩ ⟨by dsimp only; omega, by dsimp only; omega⟩ kc_J2.1 (fun H h => h.list (kc_12 hdU)) (fun E => kjx_no) (fun v_78 => ?_)
      refine kj_open (α := Int32) (φ := fun _ => v_78 = some (.int (kr_b (decide (gA g' (7, k) ∈ (sL U 3 n).map (fun i => gA g' (7, i))))))) (fun mc hv => ?_)
      subst hv
      refine kj_P (P' := kr_S G (gA (gL g' (12, n) mc (gC g' (12, n)))) (kr_cells G (gL g' (12, n) mc (gC g' (12, n))) (uL U 3 n ((sL U 3 n).erase k)) Z1)) (fun H h => by rw [← kl_12 hdU]; rw [← her]; exact h) ?_
      have hs2 : kr_gsm [6, 12] g (gL g' (12, n) mc (gC g' (12, n))) := hs.tr (kr_gsm_gL (r := (12, n))) (fun _ z => z) (by simp)
      have hok2 : kr_gok (gL g' (12, n) mc (gC g' (12, n))) := kr_gok_gL hok (hok.2.1 _)
      rw [show gA g' = gA (gL g' (12, n) mc (gC g' (12, n))) from rfl]
      have e0' : gA (gL g' (12, n) mc (gC g' (12, n))) (0, 0) = gA g (0, 0) := e0
      have e7' : gA (gL g' (12, n) mc (gC g' (12, n))) (7, k) = gA g (7, k) := e7
      have e40' : ∀ q, gA (gL g' (12, n) mc (gC g' (12, n))) (40, q) = gA g (40, q) := e40
      generalize gL g' (12, n) mc (gC g' (12, n)) = g2 at *
      have hdW : n < sN (uL U 3 n ((sL U 3 n).erase k)) 14 0 := hdU
      refine kj_pure (fun H h => kr_S.isp (S := uL U 3 n ((sL U 3 n).erase k)) h (n := sN U 9 n) (p := k) hdev.1 hp2) (fun hiff => ?_)
      refine kj_istore (lv' := [_, _, _, _, _, _, _]) X dX1_stop_83 (by decide) (by intro w h _; cases h <;> first | rfl | exact kr_cat _) rfl ?_
      refine kj_aload X dX1_stop_85 rfl (by first | exact ⟨some _, rfl⟩ | exact ⟨none, rfl⟩ | exact ⟨_, rfl⟩) ?_
      refine kj_getN X kc_X2 1 (by decide) q138 rfl dX1_stop_87 (fun H h => h.own (kc_11 hdW)) rfl ?_
      refine kj_aload_n X dX1_stop_90 rfl rfl (by first | exact ⟨some _, rfl⟩ | exact ⟨none, rfl⟩ | exact ⟨_, rfl⟩) ?_
      refine kj_acmp_ne X (by first | exact Eq.refl (va_rf (some _)) | exact Eq.refl (va_rf none) | exact Eq.refl (va_rf _)) (by first | exact Eq.refl (va_rf (some _)) | exact Eq.refl (va_rf none) | exact Eq.refl (va_rf _)) 99 dX1_stop_91 (by decide) (fun c_91 => ?_) (fun c_91 => ?_)
      · have e : ¬ sN U 9 n = k + 1 := fun z => c_91 (hiff.mpr z)
        have eo : oStop1 k U n = uL U 3 n ((sL U 3 n).erase k) := if_neg e
        rw [eo] at nxt
        rw [e7', e40' q]
        refine kj_goto X 50 dX1_stop_99 (by decide) ?_
        refine nxt g2 _ _ _ _ (by omega) hs2 hok2 ?_ ?_
        · omega
        · omega
      · have e : sN U 9 n = k + 1 := hiff.mp c_91
        have eo : oStop1 k U n = oF (uL U 3 n ((sL U 3 n).erase k)) n := if_pos e
        rw [eo] at nxt
        refine kj_aload X dX1_stop_94 rfl (by first | exact ⟨some _, rfl⟩ | exact ⟨none, rfl⟩ | exact ⟨_, rfl⟩) ?_
        refine kj_callV X 0 (ct_X2_free X.F hok2 hdW (by rw [sL_uL, if_pos ⟨rfl, rfl⟩]; exact Nat.lt_of_le_of_lt (List.length_erase_le ..) (by omega)) (fun p hp => by rw [sL_uL, if_pos ⟨rfl, rfl⟩] at hp; exact hmem p (List.mem_of_mem_erase hp))) (lw_V q1213 q1214 q1215 q47 q1216) ⟨rfl, by decide, by decide, by decide +kernel⟩ dX1_stop_96 rfl rfl (by first | exact Nat.le_of_ble_eq_true rfl | simp [kr_cat, Value.category]) ⟨Nat.le_of_ble_eq_true rfl, Nat.le_of_ble_eq_true rfl⟩ ⟨by dsimp only; omega, by dsimp only; omega⟩ kc_X2.1 (fun H h => h.rc (kc_11 hdW)) (fun E => kjx_no) (fun v_96 => ?_)
        refine kj_and (fun e_96 => ?_)
        subst e_96
        refine kj_open (fun g3 hg3 => ?_)
        rw [e7', e40' q]
        refine kj_goto X 50 dX1_stop_99 (by decide) ?_
        refine nxt g3 _ _ _ _ (by omega) (hs2.tr hg3.1 (fun _ z => z) (by simp)) hg3.2 ?_ ?_
        · omega
        · omega
  exact loop (sN S 14 0) 0 g1 (-1) none none _ _ (by omega) (hs1.mo (by simp)) hok1 (by omega) (by omega)
end
