/-! Take, IfAlone, isSoundPlayer -/
set_option maxRecDepth 100000
section
variable {G : kr_G} {l : Launch} {g g' : kr_Gh} {S S' : kr_St} {Z : kr_Ro → Option kr_AE}
theorem oTake_15 (S : kr_St) (p d a b : Nat) (ha : a ≠ 9 ∧ a ≠ 8) : sN (oTake S p d) a b = sN S a b := by
  unfold oTake
  split
  · rfl
  · split
    · rw [sN_uN, if_neg (fun z => ha.1 z.1)]
    · rw [sN_uN, if_neg (fun z => ha.2 z.1), sN_uL]
theorem oTake_8 (S : kr_St) (p d : Nat) (h : sN S 8 p < 2) : sN (oTake S p d) 8 p < 2 := by
  unfold oTake
  split
  · exact h
  · split
    · rw [sN_uN, if_neg (fun z => absurd z.1 (by decide))]
      exact h
    · rw [sN_uN, if_pos ⟨rfl, rfl⟩]
      decide
/-- Take -/
theorem ct_X8_act (hF : kr_F G l) (hg : kr_gok g) {p q d : Nat} (hD : sN S 14 0 = 6) (hp : sN S 15 p = 1) (hq : sN S 12 q = 10) (hn : sI S 6 q = nI d) (hd : d < 6) (hqb : sN S 8 p < 2) (hho : ∀ d, d < sN S 14 0 → ∀ j, sN S 9 d = j + 1 → sN S 15 j = 1) (hl : (sL S 3 d).length ≤ 9) (a1 : Nat) : kr_T G l yX8_act (ws_ yX8_act cX8_act 4 (Option.some Jvm.ClassFile.FieldType.boolean)) 11 3300 [.ref (gA g (17, q)), .ref (gA g (0, 0)), .ref (gA g (7, p)), .ref a1] (kr_S G (gA g) (kr_cells G g S Z)) 3 15 (fun v H => v = some (.int (kr_b (decide (sN (oTake S p d) 8 p = 0)))) ∧ kr_Hx G [12] g (oTake S p d) Z H) kr_no := by
  have k17 : kr_cells G g S Z (17, q) = kr_o 10 [.int (sI S 6 q)] := by rw [kc_17 (by omega), hq]
  have hd6 : d < sN S 14 0 := by omega
  refine kr_T.of (by decide +kernel) hF (by simp [Value.category]) (Nat.le_of_ble_eq_true rfl) (fun x hx X => ?_)
  refine kj_aload_n X dX8_act_0 rfl rfl (by first | exact ⟨some _, rfl⟩ | exact ⟨none, rfl⟩ | exact ⟨_, rfl⟩) ?_
  refine kj_aload_n X dX8_act_1 rfl rfl (by first | exact ⟨some _, rfl⟩ | exact ⟨none, rfl⟩ | exact ⟨_, rfl⟩) ?_
  refine kj_aload_n X dX8_act_2 rfl rfl (by first | exact ⟨some _, rfl⟩ | exact ⟨none, rfl⟩ | exact ⟨_, rfl⟩) ?_
  refine kj_getN X kc_X1 2 (by decide) q229 rfl dX8_act_3 (fun H h => h.own (kc_kio)) rfl ?_
  refine kj_aload_n X dX8_act_6 rfl rfl (by first | exact ⟨some _, rfl⟩ | exact ⟨none, rfl⟩ | exact ⟨_, rfl⟩) ?_
  refine kj_getN X kc_X8 0 (by decide) q627 rfl dX8_act_7 (fun H h => h.own (k17)) rfl ?_
  rw [hn]
  refine kj_callF X 1 (ct_J2_get X.F kc_l2 (k := d) (a := gA g (11, d)) (by rw [List.getElem?_map, List.getElem?_range hd6]; rfl)) q1393 q590 q592 q46 q594 q589 q588 q593 q591 q148 ⟨by decide, by decide, by decide +kernel⟩ dX8_act_10 rfl rfl (by first | exact Nat.le_of_ble_eq_true rfl | simp [kr_cat, Value.category]) ⟨Nat.le_of_ble_eq_true rfl, Nat.le_of_ble_eq_true rfl⟩ ⟨by dsimp only; omega, by dsimp only; omega⟩ kc_J2.1 (fun H h => h.list (kc_l2)) (fun E => kjx_no) (fun v_10 => ?_)
  refine kj_and (fun e_10 => ?_)
  subst e_10
  refine kj_ccastR X kc_X2.1 q1394 dX8_act_15 (fun H h => h.at (kc_11 hd6)) ?_
  refine kj_callVN X 2 (ct_X1_take X.F hg hD hp hd hho hl) q1398 q43 q1395 q1397 qs18 ⟨by decide, by decide, by decide +kernel⟩ dX8_act_18 rfl rfl (by first | exact Nat.le_of_ble_eq_true rfl | simp [kr_cat, Value.category]) ⟨Nat.le_of_ble_eq_true rfl, Nat.le_of_ble_eq_true rfl⟩ ⟨by dsimp only; omega, by dsimp only; omega⟩ kc_X1.1 (fun H h => h.rc (kc_kio)) (fun E => kjx_no) (fun v_18 => ?_)
  refine kj_and (fun e_18 => ?_)
  subst e_18
  refine kj_open (fun g' hg' => ?_)
  have hp' : sN (oTake S p d) 15 p = 1 := by rw [oTake_15 _ _ _ _ _ (by decide)]; exact hp
  rw [← (hg'.1 (7, p) (by show (7 : Nat) ∉ [12]; decide)).1]
  refine kj_aload_n X dX8_act_21 rfl rfl (by first | exact ⟨some _, rfl⟩ | exact ⟨none, rfl⟩ | exact ⟨_, rfl⟩) ?_
  refine kj_getN X kc_X16 5 (by decide) q1149 rfl dX8_act_22 (fun H h => h.own (kc_7 hp')) rfl ?_
  have h2 := oTake_8 S p d hqb
  refine kj_if_ne X 32 dX8_act_25 (by decide) (fun c_25 => ?_) (fun c_25 => ?_)
  · have e : ¬ sN (oTake S p d) 8 p = 0 := fun z => c_25 (by rw [z]; rfl)
    refine kj_iconst (v := 0) X dX8_act_32 (by decide) ?_
    exact kj_zret X rfl dX8_act_33 (by omega) (by omega) (fun H h => ⟨by rw [decide_eq_false e]; rfl, kr_Hx.of h hg'.1 hg'.2⟩)
  · have e : sN (oTake S p d) 8 p = 0 := (nI_eq (b := 0) (by omega) (by omega)).mp c_25
    refine kj_iconst (v := 1) X dX8_act_28 (by decide) ?_
    refine kj_goto X 33 dX8_act_29 (by decide) ?_
    exact kj_zret X rfl dX8_act_33 (by omega) (by omega) (fun H h => ⟨by rw [decide_eq_true e]; rfl, kr_Hx.of h hg'.1 hg'.2⟩)
def nAt (S : kr_St) (k : Nat) : Nat := (List.range (sN S 2 0)).countP (fAt S k)
theorem nAt_le (S : kr_St) (k : Nat) : nAt S k ≤ sN S 2 0 := by
  unfold nAt
  refine Nat.le_trans List.countP_le_length ?_
  rw [List.length_range]
  exact Nat.le_refl _
def oAlone (S : kr_St) (p k q : Nat) : kr_St := if nAt S k = 0 then uI S 5 (kt_top S p) (sI S 6 q) else S
/-- IfAlone -/
theorem ct_X11_act (hF : kr_F G l) (hg : kr_gok g) {p k q : Nat} (hV : sN S 2 0 ≤ 10) (hp : sN S 15 p = 1) (h1 : 0 < sN S 5 p) (h4 : sN S 5 p ≤ 4) (hq : sN S 12 q = 13) (hk : k < sN S 1 0) (hat : ∀ d, d < sN S 2 0 → sN S 10 d ≤ sN S 1 0) : kr_T G l yX11_act (ws_ yX11_act cX11_act 4 (Option.some Jvm.ClassFile.FieldType.boolean)) 11 3300 [.ref (gA g (17, q)), .ref (gA g (0, 0)), .ref (gA g (7, p)), .ref (gA g (5, k))] (kr_S G (gA g) (kr_cells G g S Z)) 2 5 (fun v H => v = some (.int (kr_b true)) ∧ kr_S G (gA g) (kr_cells G g (oAlone S p k q) Z) H) kr_no := by
  have k17 : kr_cells G g S Z (17, q) = kr_o 13 [.int (sI S 6 q)] := by rw [kc_17 (by omega), hq]
  have hle := nAt_le S k
  refine kr_T.of (by decide +kernel) hF (by simp [Value.category]) (Nat.le_of_ble_eq_true rfl) (fun x hx X => ?_)
  refine kj_aload_n X dX11_act_0 rfl rfl (by first | exact ⟨some _, rfl⟩ | exact ⟨none, rfl⟩ | exact ⟨_, rfl⟩) ?_
  refine kj_aload_n X dX11_act_1 rfl rfl (by first | exact ⟨some _, rfl⟩ | exact ⟨none, rfl⟩ | exact ⟨_, rfl⟩) ?_
  refine kj_indy X (k := 4) (by decide) (by decide +kernel) (by decide +kernel) kr_lok_4 (by decide +kernel) (vals := [.ref (gA g (5, k))]) (rest := [.ref (gA g (0, 0))]) (Pn := fun q H => Z (40, q) = none ∧ kr_S G (gA g) (kr_cells G g S (kr_up Z (40, q) (kr_lam 4 [.ref (gA g (5, k))]))) H) (by decide +kernel) dX11_act_2 rfl (by show 1 = (kr_shp 4).captured.length; decide +kernel) (by first | exact kr_fitP (by decide +kernel) | exact kr_fitK (by decide +kernel) | exact kr_fit2) ⟨Nat.le_of_ble_eq_true rfl, Nat.le_of_ble_eq_true rfl⟩ ⟨by dsimp only; omega, by dsimp only [List.length]; omega⟩ (fun H H1 h ho a u => h.mk hg.1 a ho u) (fun q_2 => ?_)
  refine kj_and (fun h_q_2 => ?_)
  rw [show ([.ref (gA g (5, k))] : List Value).length = 1 from rfl]
  refine kj_callVN X 1 (ct_X1_countVisitors X.F hg (by omega) (hr_alone X.F hg.1 hk hat)) q1341 q43 q1338 q1340 qs16 ⟨by decide, by decide, by decide +kernel⟩ dX11_act_7 rfl rfl (by first | exact Nat.le_of_ble_eq_true rfl | simp [kr_cat, Value.category]) ⟨Nat.le_of_ble_eq_true rfl, Nat.le_of_ble_eq_true rfl⟩ ⟨by dsimp only; omega, by dsimp only; omega⟩ kc_X1.1 (fun H h => h.rc (kc_kio)) (fun E => kjx_no) (fun v_7 => ?_)
  refine kj_and (fun e_7 => ?_)
  subst e_7
  refine kj_P (P' := kr_S G (gA g) (kr_cells G g S Z)) (fun H h => h.tidy h_q_2) ?_
  refine kj_if_ne X 24 dX11_act_10 (by decide) (fun c_10 => ?_) (fun c_10 => ?_)
  · have e : ¬ nAt S k = 0 := fun z => c_10 (by rw [show (List.range (sN S 2 0)).countP (fAt S k) = 0 from z]; rfl)
    unfold oAlone
    rw [if_neg e]
    refine kj_iconst (v := 1) X dX11_act_24 (by decide) ?_
    exact kj_zret X rfl dX11_act_25 (by omega) (by omega) (fun H h => ⟨rfl, h⟩)
  · have e : nAt S k = 0 := (nI_eq (b := 0) (by omega) (by omega)).mp c_10
    unfold oAlone
    rw [if_pos e]
    refine kj_aload_n X dX11_act_13 rfl rfl (by first | exact ⟨some _, rfl⟩ | exact ⟨none, rfl⟩ | exact ⟨_, rfl⟩) ?_
    refine kj_callV X 0 (ct_X16_top X.F hp h1 h4) (lw_V q1346 q1272 q1273 q84 q1274) ⟨rfl, by decide, by decide, by decide +kernel⟩ dX11_act_14 rfl rfl (by first | exact Nat.le_of_ble_eq_true rfl | simp [kr_cat, Value.category]) ⟨Nat.le_of_ble_eq_true rfl, Nat.le_of_ble_eq_true rfl⟩ ⟨by dsimp only; omega, by dsimp only; omega⟩ kc_X16.1 (fun H h => h.rc (kc_7 hp)) (fun E => kjx_no) (fun v_14 => ?_)
    refine kj_and (fun e_14 => ?_)
    subst e_14
    refine kj_aload_n X dX11_act_17 rfl rfl (by first | exact ⟨some _, rfl⟩ | exact ⟨none, rfl⟩ | exact ⟨_, rfl⟩) ?_
    refine kj_getN X kc_X11 0 (by decide) q629 rfl dX11_act_18 (fun H h => h.own (k17)) rfl ?_
    refine kj_putN X kc_X17 2 (by decide) q1126 rfl rfl dX11_act_21 (by first | rfl | exact kr_nar _ _ | exact kr_narb _) (by first | rfl | exact kr_fitr _ _ | exact kr_fitb _) (Nat.le_of_ble_eq_true rfl) (fun H h => h.own (kc_9 (d := sN S 5 p - 1) hp (by omega) (by omega))) (fun H H1 h a u => h.upd (kc_9 (d := sN S 5 p - 1) hp (by omega) (by omega)) (ku_next (d := sN S 5 p - 1) hp (by omega) (by omega)) a u) ?_
    refine kj_iconst (v := 1) X dX11_act_24 (by decide) ?_
    exact kj_zret X rfl dX11_act_25 (by omega) (by omega) (fun H h => ⟨rfl, h⟩)
def nQueue (S : kr_St) (p : Nat) : Nat := (List.range (sN S 14 0)).countP (fQueue S p)
theorem ct_X1_isSoundPlayer (hF : kr_F G l) (hg : kr_gok g) {p : Nat} (hD : sN S 14 0 = 6) (hp : sN S 15 p = 1) (hho : ∀ d, d < sN S 14 0 → ∀ j, sN S 9 d = j + 1 → sN S 15 j = 1) (hqu : ∀ d, d < sN S 14 0 → ∀ j ∈ sL S 3 d, sN S 15 j = 1) (h3 : nHeld S p ≤ 3) (hs : nQueue S p = sN S 8 p) (hs2 : sN S 8 p < 2) : kr_T G l yX1_isSoundPlayer (ws_ yX1_isSoundPlayer cX1_isSoundPlayer 4 (Option.some Jvm.ClassFile.FieldType.boolean)) 10 3200 [.ref (gA g (0, 0)), .ref (gA g (7, p))] (kr_S G (gA g) (kr_cells G g S Z)) 4 10 (fun v H => v = some (.int (kr_b true)) ∧ kr_S G (gA g) (kr_cells G g S Z) H) kr_no := by
  refine kr_T.of (by decide +kernel) hF (by simp [Value.category]) (Nat.le_of_ble_eq_true rfl) (fun x hx X => ?_)
  refine kj_aload_n X dX1_isSoundPlayer_0 rfl rfl (by first | exact ⟨some _, rfl⟩ | exact ⟨none, rfl⟩ | exact ⟨_, rfl⟩) ?_
  refine kj_aload_n X dX1_isSoundPlayer_1 rfl rfl (by first | exact ⟨some _, rfl⟩ | exact ⟨none, rfl⟩ | exact ⟨_, rfl⟩) ?_
  refine kj_indy X (k := 1) (by decide) (by decide +kernel) (by decide +kernel) kr_lok_1 (by decide +kernel) (vals := [.ref (gA g (7, p))]) (rest := [.ref (gA g (0, 0))]) (Pn := fun q H => Z (40, q) = none ∧ kr_S G (gA g) (kr_cells G g S (kr_up Z (40, q) (kr_lam 1 [.ref (gA g (7, p))]))) H) (by decide +kernel) dX1_isSoundPlayer_2 rfl (by show 1 = (kr_shp 1).captured.length; decide +kernel) (by first | exact kr_fitP (by decide +kernel) | exact kr_fitK (by decide +kernel) | exact kr_fit2) ⟨Nat.le_of_ble_eq_true rfl, Nat.le_of_ble_eq_true rfl⟩ ⟨by dsimp only; omega, by dsimp only [List.length]; omega⟩ (fun H H1 h ho a u => h.mk hg.1 a ho u) (fun q_2 => ?_)
  refine kj_and (fun h_q_2 => ?_)
  rw [show ([.ref (gA g (7, p))] : List Value).length = 1 from rfl]
  refine kj_callV X 1 (ct_X1_countDevices X.F hg (by omega) (hr_sp5 X.F hg.1 hp hqu)) (lw_V q257 q259 qs3 q43 q260) ⟨rfl, by decide, by decide, by decide +kernel⟩ dX1_isSoundPlayer_7 rfl rfl (by first | exact Nat.le_of_ble_eq_true rfl | simp [kr_cat, Value.category]) ⟨Nat.le_of_ble_eq_true rfl, Nat.le_of_ble_eq_true rfl⟩ ⟨by dsimp only; omega, by dsimp only; omega⟩ kc_X1.1 (fun H h => h.rc (kc_kio)) (fun E => kjx_no) (fun v_7 => ?_)
  refine kj_and (fun e_7 => ?_)
  subst e_7
  refine kj_P (P' := kr_S G (gA g) (kr_cells G g S Z)) (fun H h => h.tidy h_q_2) ?_
  rw [show (List.range (sN S 14 0)).countP (fQueue S p) = sN S 8 p from hs]
  refine kj_istore_n (lv' := [_, _, _, _]) X dX1_isSoundPlayer_10 rfl (by decide) (by intro w h _; cases h <;> first | rfl | exact kr_cat _) rfl ?_
  refine kj_aload_n X dX1_isSoundPlayer_11 rfl rfl (by first | exact ⟨some _, rfl⟩ | exact ⟨none, rfl⟩ | exact ⟨_, rfl⟩) ?_
  refine kj_aload_n X dX1_isSoundPlayer_12 rfl rfl (by first | exact ⟨some _, rfl⟩ | exact ⟨none, rfl⟩ | exact ⟨_, rfl⟩) ?_
  refine kj_indy X (k := 2) (by decide) (by decide +kernel) (by decide +kernel) kr_lok_2 (by decide +kernel) (vals := [.ref (gA g (7, p))]) (rest := [.ref (gA g (0, 0))]) (Pn := fun q H => Z (40, q) = none ∧ kr_S G (gA g) (kr_cells G g S (kr_up Z (40, q) (kr_lam 2 [.ref (gA g (7, p))]))) H) (by decide +kernel) dX1_isSoundPlayer_13 rfl (by show 1 = (kr_shp 2).captured.length; decide +kernel) (by first | exact kr_fitP (by decide +kernel) | exact kr_fitK (by decide +kernel) | exact kr_fit2) ⟨Nat.le_of_ble_eq_true rfl, Nat.le_of_ble_eq_true rfl⟩ ⟨by dsimp only; omega, by dsimp only [List.length]; omega⟩ (fun H H1 h ho a u => h.mk hg.1 a ho u) (fun q_13 => ?_)
  refine kj_and (fun h_q_13 => ?_)
  rw [show ([.ref (gA g (7, p))] : List Value).length = 1 from rfl]
  refine kj_callV X 1 (ct_X1_countDevices X.F hg (by omega) (hr_sp6 X.F hg.1 hp hho)) (lw_V q257 q259 qs3 q43 q260) ⟨rfl, by decide, by decide, by decide +kernel⟩ dX1_isSoundPlayer_18 rfl rfl (by first | exact Nat.le_of_ble_eq_true rfl | simp [kr_cat, Value.category]) ⟨Nat.le_of_ble_eq_true rfl, Nat.le_of_ble_eq_true rfl⟩ ⟨by dsimp only; omega, by dsimp only; omega⟩ kc_X1.1 (fun H h => h.rc (kc_kio)) (fun E => kjx_no) (fun v_18 => ?_)
  refine kj_and (fun e_18 => ?_)
  subst e_18
  refine kj_P (P' := kr_S G (gA g) (kr_cells G g S Z)) (fun H h => h.tidy h_q_13) ?_
  rw [show (List.range (sN S 14 0)).countP (fHold S p) = nHeld S p from rfl]
  refine kj_istore_n (lv' := [_, _, _, _]) X dX1_isSoundPlayer_21 rfl (by decide) (by intro w h _; cases h <;> first | rfl | exact kr_cat _) rfl ?_
  refine kj_iload_n X dX1_isSoundPlayer_22 rfl rfl ?_
  refine kj_iconst (v := 3) X dX1_isSoundPlayer_23 (by decide) ?_
  refine kj_icmp_gt X 47 dX1_isSoundPlayer_24 (by decide) (fun c_24 => ?_) (fun c_24 => ?_)
  · exact absurd c_24 (Int32.not_lt.mpr (nI_le (b := 3) h3 (by decide)))
  rcases (show sN S 8 p = 0 ∨ sN S 8 p = 1 by omega) with e | e
  · have k7 : kr_cells G g S Z (7, p) = kr_o 5 [.int (nI p), .ref (gA g (8, p)), va_rf (kr_op (fun i => gA g (5, i)) (sN S 4 p)), .int (sI S 1 p), .int (sI S 2 p), .int (nI 0)] := by rw [kc_7 hp, e]
    rw [e]
    refine kj_iload_n X dX1_isSoundPlayer_27 rfl rfl ?_
    refine kj_aload_n X dX1_isSoundPlayer_28 rfl rfl (by first | exact ⟨some _, rfl⟩ | exact ⟨none, rfl⟩ | exact ⟨_, rfl⟩) ?_
    refine kj_getN X kc_X16 5 (by decide) q1151 rfl dX1_isSoundPlayer_29 (fun H h => h.own (k7)) rfl ?_
    refine kj_if_eq X 39 dX1_isSoundPlayer_32 (by decide) (fun c_32 => ?_) (fun c_32 => ?_)
    rotate_left
    · exact absurd rfl c_32
    refine kj_iconst (v := 0) X dX1_isSoundPlayer_39 (by decide) ?_
    refine kj_icmp_ne X 47 dX1_isSoundPlayer_40 (by decide) (fun c_40 => ?_) (fun c_40 => ?_)
    · exact absurd rfl c_40
    refine kj_iconst (v := 1) X dX1_isSoundPlayer_43 (by decide) ?_
    refine kj_goto X 48 dX1_isSoundPlayer_44 (by decide) ?_
    exact kj_zret X rfl dX1_isSoundPlayer_48 (by omega) (by omega) (fun H h => ⟨rfl, h⟩)
  · have k7 : kr_cells G g S Z (7, p) = kr_o 5 [.int (nI p), .ref (gA g (8, p)), va_rf (kr_op (fun i => gA g (5, i)) (sN S 4 p)), .int (sI S 1 p), .int (sI S 2 p), .int (nI 1)] := by rw [kc_7 hp, e]
    rw [e]
    refine kj_iload_n X dX1_isSoundPlayer_27 rfl rfl ?_
    refine kj_aload_n X dX1_isSoundPlayer_28 rfl rfl (by first | exact ⟨some _, rfl⟩ | exact ⟨none, rfl⟩ | exact ⟨_, rfl⟩) ?_
    refine kj_getN X kc_X16 5 (by decide) q1151 rfl dX1_isSoundPlayer_29 (fun H h => h.own (k7)) rfl ?_
    refine kj_if_eq X 39 dX1_isSoundPlayer_32 (by decide) (fun c_32 => ?_) (fun c_32 => ?_)
    · exact absurd c_32 (by decide)
    refine kj_iconst (v := 1) X dX1_isSoundPlayer_35 (by decide) ?_
    refine kj_goto X 40 dX1_isSoundPlayer_36 (by decide) ?_
    refine kj_icmp_ne X 47 dX1_isSoundPlayer_40 (by decide) (fun c_40 => ?_) (fun c_40 => ?_)
    · exact absurd rfl c_40
    refine kj_iconst (v := 1) X dX1_isSoundPlayer_43 (by decide) ?_
    refine kj_goto X 48 dX1_isSoundPlayer_44 (by decide) ?_
    exact kj_zret X rfl dX1_isSoundPlayer_48 (by omega) (by omega) (fun H h => ⟨rfl, h⟩)
end
