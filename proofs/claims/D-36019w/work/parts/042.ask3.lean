/-! QUESTIONS 3: queued, playerAt, go, nearest -/
set_option maxRecDepth 100000
section
variable {G : kr_G} {l : Launch} {g g' : kr_Gh} {S S' : kr_St} {Z : kr_Ro → Option kr_AE}
theorem ct_X1_queued (hF : kr_F G l) (i j : Int32) (hn : sN S 14 0 = 6) (hl : ∀ k, k < 6 → (sL S 3 k).length < 2 ^ 31) (hx : ∀ k, k < 6 → ∀ p ∈ sL S 3 k, sN S 15 p = 1) : kr_T G l yX1_queued (ws_ yX1_queued cX1_queued 4 (Option.some Jvm.ClassFile.FieldType.int)) 8 500 [.ref (gA g (0, 0)), .int i, .int j] (kr_S G (gA g) (kr_cells G g S Z)) 2 12 (fun v H => ∃ a : Nat × Nat × Nat, (i = nI a.1 ∧ a.1 < 6 ∧ j = nI a.2.1 ∧ (sL S 3 a.1)[a.2.1]? = some a.2.2 ∧ v = some (.int (nI a.2.2))) ∧ kr_S G (gA g) (kr_cells G g S Z) H) (fun E H => ((¬ (0 ≤ i ∧ i < 6) ∧ E = kE_I) ∨ ∃ k, i = nI k ∧ k < 6 ∧ (¬ ∃ m, j = nI m ∧ m < (sL S 3 k).length) ∧ E = kE_N) ∧ kr_S G (gA g) (kr_cells G g S Z) H) := by
  refine kr_T.of (by decide +kernel) hF (by simp [Value.category]) (Nat.le_of_ble_eq_true rfl) (fun x hxx X => ?_)
  refine kj_aload_n X dX1_queued_0 rfl rfl (by first | exact ⟨some _, rfl⟩ | exact ⟨none, rfl⟩ | exact ⟨_, rfl⟩) ?_
  refine kj_iload_n X dX1_queued_1 rfl rfl ?_
  refine kj_callV X 1 (ct_X1_deviceAt X.F i hn) (lw_V q1452 q1454 qs20 q43 q1455) ⟨rfl, by decide, by decide, by decide +kernel⟩ dX1_queued_2 rfl rfl (by first | exact Nat.le_of_ble_eq_true rfl | simp [kr_cat, Value.category]) ⟨Nat.le_of_ble_eq_true rfl, Nat.le_of_ble_eq_true rfl⟩ ⟨by dsimp only; omega, by dsimp only; omega⟩ kc_X1.1 (fun H h => h.rc (kc_kio)) (fun E => kjx_out X (by omega) (by omega) (fun H h => ⟨Or.inl h.1, h.2⟩)) (fun v_2 => ?_)
  refine kj_open (fun k hk => ?_)
  obtain ⟨rfl, hk, rfl⟩ := hk
  have hk6 : k < sN S 14 0 := by omega
  have hlk := hl k hk
  refine kj_astore_n (lv' := [_, _, _, _]) X dX1_queued_5 rfl (by decide) (by intro w h _; cases h <;> first | rfl | exact kr_cat _) (by first | exact ⟨some _, rfl⟩ | exact ⟨none, rfl⟩ | exact ⟨_, rfl⟩) rfl ?_
  refine kj_iload_n X dX1_queued_6 rfl rfl ?_
  refine kj_iconst (v := 0) X dX1_queued_7 (by decide) ?_
  refine kj_aload_n X dX1_queued_8 rfl rfl (by first | exact ⟨some _, rfl⟩ | exact ⟨none, rfl⟩ | exact ⟨_, rfl⟩) ?_
  refine kj_getN X kc_X2 0 (by decide) q135 rfl dX1_queued_9 (fun H h => h.own (kc_11 hk6)) rfl ?_
  refine kj_callF X 0 (ct_J2_size X.F (kc_12 hk6)) q478 q481 q483 q46 q485 q480 q479 q484 q482 q148 ⟨by decide, by decide, by decide +kernel⟩ dX1_queued_12 rfl rfl (by first | exact Nat.le_of_ble_eq_true rfl | simp [kr_cat, Value.category]) ⟨Nat.le_of_ble_eq_true rfl, Nat.le_of_ble_eq_true rfl⟩ ⟨by dsimp only; omega, by dsimp only; omega⟩ kc_J2.1 (fun H h => h.list (kc_12 hk6)) (fun E => kjx_no) (fun v_12 => ?_)
  refine kj_and (fun e_12 => ?_)
  subst e_12
  rw [List.length_map]
  refine kj_iconst (v := 1) X dX1_queued_17 (by decide) ?_
  refine kj_isub X dX1_queued_18 ?_
  refine kj_callS X 3 (ct_X1_isIn X.F j 0 (nI (sL S 3 k).length - 1)) (lw_S q608 q609 q43 q610) ⟨by decide, by decide, by decide +kernel⟩ dX1_queued_19 rfl rfl (by first | exact Nat.le_of_ble_eq_true rfl | simp [kr_cat, Value.category]) ⟨Nat.le_of_ble_eq_true rfl, Nat.le_of_ble_eq_true rfl⟩ ⟨by dsimp only; omega, by dsimp only; omega⟩ (fun E => kjx_no) (fun v_19 => ?_)
  refine kj_and (fun e_19 => ?_)
  subst e_19
  refine kj_callS X 1 (ct_X1_requireElement X.F (decide (0 ≤ j ∧ j ≤ nI (sL S 3 k).length - 1)) (kr_S G (gA g) (kr_cells G g S Z)) kr_S.mono) (lw_S q1193 q1194 q43 q1195) ⟨by decide, by decide, by decide +kernel⟩ dX1_queued_22 rfl rfl (by first | exact Nat.le_of_ble_eq_true rfl | simp [kr_cat, Value.category]) ⟨Nat.le_of_ble_eq_true rfl, Nat.le_of_ble_eq_true rfl⟩ ⟨by dsimp only; omega, by dsimp only; omega⟩ (fun E => kjx_out X (by omega) (by omega) (fun H h => ⟨Or.inr ⟨k, rfl, hk, fun z => of_decide_eq_false h.1 ((kr_in hlk).mpr z), h.2.1⟩, h.2.2⟩)) (fun v_22 => ?_)
  refine kj_and (fun hd => ?_)
  refine kj_and (fun e => ?_)
  subst e
  obtain ⟨m, rfl, hm⟩ := (kr_in hlk).mp (of_decide_eq_true hd)
  have hpm : (sL S 3 k)[m]? = some (sL S 3 k)[m] := List.getElem?_eq_getElem hm
  have hp := hx k hk _ (List.getElem_mem hm)
  generalize (sL S 3 k)[m] = p at hpm hp
  refine kj_aload_n X dX1_queued_25 rfl rfl (by first | exact ⟨some _, rfl⟩ | exact ⟨none, rfl⟩ | exact ⟨_, rfl⟩) ?_
  refine kj_getN X kc_X2 0 (by decide) q135 rfl dX1_queued_26 (fun H h => h.own (kc_11 hk6)) rfl ?_
  refine kj_iload_n X dX1_queued_29 rfl rfl ?_
  refine kj_callF X 1 (ct_J2_get X.F (kc_12 hk6) (k := m) (a := gA g (7, p)) (by rw [List.getElem?_map, hpm]; rfl)) q587 q590 q592 q46 q594 q589 q588 q593 q591 q148 ⟨by decide, by decide, by decide +kernel⟩ dX1_queued_30 rfl rfl (by first | exact Nat.le_of_ble_eq_true rfl | simp [kr_cat, Value.category]) ⟨Nat.le_of_ble_eq_true rfl, Nat.le_of_ble_eq_true rfl⟩ ⟨by dsimp only; omega, by dsimp only; omega⟩ kc_J2.1 (fun H h => h.list (kc_12 hk6)) (fun E => kjx_no) (fun v_30 => ?_)
  refine kj_and (fun e_30 => ?_)
  subst e_30
  refine kj_ccastR X kc_X16.1 q1103 dX1_queued_35 (fun H h => h.at (kc_7 hp)) ?_
  refine kj_getN X kc_X16 0 (by decide) q1138 rfl dX1_queued_38 (fun H h => h.own (kc_7 hp)) rfl ?_
  exact kj_iret X dX1_queued_41 (by omega) (by omega) (fun H h => ⟨(k, m, p), ⟨rfl, hk, rfl, hpm, rfl⟩, h⟩)
theorem ct_X1_playerAt (hF : kr_F G l) (i j : Int32) (hn : sN S 1 0 ≤ 6) (hl : ∀ k, k < sN S 1 0 → (sL S 2 k).length < 2 ^ 31) (hx : ∀ k, k < sN S 1 0 → ∀ p ∈ sL S 2 k, sN S 15 p = 1) : kr_T G l yX1_playerAt (ws_ yX1_playerAt cX1_playerAt 4 (Option.some Jvm.ClassFile.FieldType.int)) 8 500 [.ref (gA g (0, 0)), .int i, .int j] (kr_S G (gA g) (kr_cells G g S Z)) 2 12 (fun v H => ∃ a : Nat × Nat × Nat, (i = nI a.1 ∧ a.1 < sN S 1 0 ∧ j = nI a.2.1 ∧ (sL S 2 a.1)[a.2.1]? = some a.2.2 ∧ v = some (.int (nI a.2.2))) ∧ kr_S G (gA g) (kr_cells G g S Z) H) (fun E H => ((¬ (0 ≤ i ∧ i < nI (sN S 1 0)) ∧ E = kE_I) ∨ ∃ k, i = nI k ∧ k < sN S 1 0 ∧ (¬ ∃ m, j = nI m ∧ m < (sL S 2 k).length) ∧ E = kE_N) ∧ kr_S G (gA g) (kr_cells G g S Z) H) := by
  refine kr_T.of (by decide +kernel) hF (by simp [Value.category]) (Nat.le_of_ble_eq_true rfl) (fun x hxx X => ?_)
  refine kj_aload_n X dX1_playerAt_0 rfl rfl (by first | exact ⟨some _, rfl⟩ | exact ⟨none, rfl⟩ | exact ⟨_, rfl⟩) ?_
  refine kj_iload_n X dX1_playerAt_1 rfl rfl ?_
  refine kj_callV X 1 (ct_X1_kioskAt X.F i hn) (lw_V q1099 q1101 qs10 q43 q1102) ⟨rfl, by decide, by decide, by decide +kernel⟩ dX1_playerAt_2 rfl rfl (by first | exact Nat.le_of_ble_eq_true rfl | simp [kr_cat, Value.category]) ⟨Nat.le_of_ble_eq_true rfl, Nat.le_of_ble_eq_true rfl⟩ ⟨by dsimp only; omega, by dsimp only; omega⟩ kc_X1.1 (fun H h => h.rc (kc_kio)) (fun E => kjx_out X (by omega) (by omega) (fun H h => ⟨Or.inl h.1, h.2⟩)) (fun v_2 => ?_)
  refine kj_open (fun k hk => ?_)
  obtain ⟨rfl, hk, rfl⟩ := hk
  have hlk := hl k hk
  refine kj_astore_n (lv' := [_, _, _, _]) X dX1_playerAt_5 rfl (by decide) (by intro w h _; cases h <;> first | rfl | exact kr_cat _) (by first | exact ⟨some _, rfl⟩ | exact ⟨none, rfl⟩ | exact ⟨_, rfl⟩) rfl ?_
  refine kj_iload_n X dX1_playerAt_6 rfl rfl ?_
  refine kj_iconst (v := 0) X dX1_playerAt_7 (by decide) ?_
  refine kj_aload_n X dX1_playerAt_8 rfl rfl (by first | exact ⟨some _, rfl⟩ | exact ⟨none, rfl⟩ | exact ⟨_, rfl⟩) ?_
  refine kj_getN X kc_X15 1 (by decide) q1069 rfl dX1_playerAt_9 (fun H h => h.own (kc_5 hk)) rfl ?_
  refine kj_callF X 0 (ct_J2_size X.F (kc_6 hk)) q478 q481 q483 q46 q485 q480 q479 q484 q482 q148 ⟨by decide, by decide, by decide +kernel⟩ dX1_playerAt_12 rfl rfl (by first | exact Nat.le_of_ble_eq_true rfl | simp [kr_cat, Value.category]) ⟨Nat.le_of_ble_eq_true rfl, Nat.le_of_ble_eq_true rfl⟩ ⟨by dsimp only; omega, by dsimp only; omega⟩ kc_J2.1 (fun H h => h.list (kc_6 hk)) (fun E => kjx_no) (fun v_12 => ?_)
  refine kj_and (fun e_12 => ?_)
  subst e_12
  rw [List.length_map]
  refine kj_iconst (v := 1) X dX1_playerAt_17 (by decide) ?_
  refine kj_isub X dX1_playerAt_18 ?_
  refine kj_callS X 3 (ct_X1_isIn X.F j 0 (nI (sL S 2 k).length - 1)) (lw_S q608 q609 q43 q610) ⟨by decide, by decide, by decide +kernel⟩ dX1_playerAt_19 rfl rfl (by first | exact Nat.le_of_ble_eq_true rfl | simp [kr_cat, Value.category]) ⟨Nat.le_of_ble_eq_true rfl, Nat.le_of_ble_eq_true rfl⟩ ⟨by dsimp only; omega, by dsimp only; omega⟩ (fun E => kjx_no) (fun v_19 => ?_)
  refine kj_and (fun e_19 => ?_)
  subst e_19
  refine kj_callS X 1 (ct_X1_requireElement X.F (decide (0 ≤ j ∧ j ≤ nI (sL S 2 k).length - 1)) (kr_S G (gA g) (kr_cells G g S Z)) kr_S.mono) (lw_S q1193 q1194 q43 q1195) ⟨by decide, by decide, by decide +kernel⟩ dX1_playerAt_22 rfl rfl (by first | exact Nat.le_of_ble_eq_true rfl | simp [kr_cat, Value.category]) ⟨Nat.le_of_ble_eq_true rfl, Nat.le_of_ble_eq_true rfl⟩ ⟨by dsimp only; omega, by dsimp only; omega⟩ (fun E => kjx_out X (by omega) (by omega) (fun H h => ⟨Or.inr ⟨k, rfl, hk, fun z => of_decide_eq_false h.1 ((kr_in hlk).mpr z), h.2.1⟩, h.2.2⟩)) (fun v_22 => ?_)
  refine kj_and (fun hd => ?_)
  refine kj_and (fun e => ?_)
  subst e
  obtain ⟨m, rfl, hm⟩ := (kr_in hlk).mp (of_decide_eq_true hd)
  have hpm : (sL S 2 k)[m]? = some (sL S 2 k)[m] := List.getElem?_eq_getElem hm
  have hp := hx k hk _ (List.getElem_mem hm)
  generalize (sL S 2 k)[m] = p at hpm hp
  refine kj_aload_n X dX1_playerAt_25 rfl rfl (by first | exact ⟨some _, rfl⟩ | exact ⟨none, rfl⟩ | exact ⟨_, rfl⟩) ?_
  refine kj_getN X kc_X15 1 (by decide) q1069 rfl dX1_playerAt_26 (fun H h => h.own (kc_5 hk)) rfl ?_
  refine kj_iload_n X dX1_playerAt_29 rfl rfl ?_
  refine kj_callF X 1 (ct_J2_get X.F (kc_6 hk) (k := m) (a := gA g (7, p)) (by rw [List.getElem?_map, hpm]; rfl)) q587 q590 q592 q46 q594 q589 q588 q593 q591 q148 ⟨by decide, by decide, by decide +kernel⟩ dX1_playerAt_30 rfl rfl (by first | exact Nat.le_of_ble_eq_true rfl | simp [kr_cat, Value.category]) ⟨Nat.le_of_ble_eq_true rfl, Nat.le_of_ble_eq_true rfl⟩ ⟨by dsimp only; omega, by dsimp only; omega⟩ kc_J2.1 (fun H h => h.list (kc_6 hk)) (fun E => kjx_no) (fun v_30 => ?_)
  refine kj_and (fun e_30 => ?_)
  subst e_30
  refine kj_ccastR X kc_X16.1 q1103 dX1_playerAt_35 (fun H h => h.at (kc_7 hp)) ?_
  refine kj_getN X kc_X16 0 (by decide) q1138 rfl dX1_playerAt_38 (fun H h => h.own (kc_7 hp)) rfl ?_
  exact kj_iret X dX1_playerAt_41 (by omega) (by omega) (fun H h => ⟨(k, m, p), ⟨rfl, hk, rfl, hpm, rfl⟩, h⟩)
/-- go -/
theorem ct_X1_go (hF : kr_F G l) (i j : Int32) (hn : sN S 2 0 ≤ 10) (hK : sN S 1 0 ≤ 6) (hat : ∀ v, v < sN S 2 0 → sN S 10 v ≤ sN S 1 0) : kr_T G l yX1_go (ws_ yX1_go cX1_go 5 (Option.some Jvm.ClassFile.FieldType.int)) 8 500 [.ref (gA g (0, 0)), .int i, .int j] (kr_S G (gA g) (kr_cells G g S Z)) 2 12 (fun v H => ∃ a : Nat × Nat, (i = nI a.1 ∧ a.1 < sN S 2 0 ∧ j + 1 = nI a.2 ∧ a.2 ≤ sN S 1 0 ∧ v = some (.int (nI (sN S 10 a.1) - 1))) ∧ kr_S G (gA g) (kr_cells G g (uN S 10 a.1 a.2) Z) H) (fun E H => ((¬ (0 ≤ i ∧ i < nI (sN S 2 0)) ∨ ((0 ≤ i ∧ i < nI (sN S 2 0)) ∧ ¬ (0 ≤ j + 1 ∧ j + 1 < nI (sN S 1 0 + 1)))) ∧ E = kE_I) ∧ kr_S G (gA g) (kr_cells G g S Z) H) := by
  refine kr_T.of (by decide +kernel) hF (by simp [Value.category]) (Nat.le_of_ble_eq_true rfl) (fun x hx X => ?_)
  refine kj_aload_n X dX1_go_0 rfl rfl (by first | exact ⟨some _, rfl⟩ | exact ⟨none, rfl⟩ | exact ⟨_, rfl⟩) ?_
  refine kj_iload_n X dX1_go_1 rfl rfl ?_
  refine kj_callV X 1 (ct_X1_visitorAt X.F i hn) (lw_V q1501 q1503 qs21 q43 q1504) ⟨rfl, by decide, by decide, by decide +kernel⟩ dX1_go_2 rfl rfl (by first | exact Nat.le_of_ble_eq_true rfl | simp [kr_cat, Value.category]) ⟨Nat.le_of_ble_eq_true rfl, Nat.le_of_ble_eq_true rfl⟩ ⟨by dsimp only; omega, by dsimp only; omega⟩ kc_X1.1 (fun H h => h.rc (kc_kio)) (fun E => kjx_out X (by omega) (by omega) (fun H h => ⟨⟨Or.inl h.1.1, h.1.2⟩, h.2⟩)) (fun v_2 => ?_)
  refine kj_open (fun k hk => ?_)
  obtain ⟨rfl, hk, rfl⟩ := hk
  have hir : 0 ≤ nI k ∧ nI k < nI (sN S 2 0) := ⟨nI_pos' (by omega), nI_lt hk (by omega)⟩
  refine kj_astore_n (lv' := [_, _, _, _, _]) X dX1_go_5 rfl (by decide) (by intro w h _; cases h <;> first | rfl | exact kr_cat _) (by first | exact ⟨some _, rfl⟩ | exact ⟨none, rfl⟩ | exact ⟨_, rfl⟩) rfl ?_
  refine kj_iload_n X dX1_go_6 rfl rfl ?_
  refine kj_iconst (v := 1) X dX1_go_7 (by decide) ?_
  refine kj_iadd X dX1_go_8 ?_
  refine kj_aload_n X dX1_go_9 rfl rfl (by first | exact ⟨some _, rfl⟩ | exact ⟨none, rfl⟩ | exact ⟨_, rfl⟩) ?_
  refine kj_get X kc_X1 1 (by decide) q227 (Or.inl rfl) dX1_go_10 (fun H h => h.own (kc_kio)) rfl ?_
  refine kj_callF X 0 (ct_J2_size X.F kc_l1) q478 q481 q483 q46 q485 q480 q479 q484 q482 q148 ⟨by decide, by decide, by decide +kernel⟩ dX1_go_13 rfl rfl (by first | exact Nat.le_of_ble_eq_true rfl | simp [kr_cat, Value.category]) ⟨Nat.le_of_ble_eq_true rfl, Nat.le_of_ble_eq_true rfl⟩ ⟨by dsimp only; omega, by dsimp only; omega⟩ kc_J2.1 (fun H h => h.list (kc_l1)) (fun E => kjx_no) (fun v_13 => ?_)
  refine kj_and (fun e_13 => ?_)
  subst e_13
  rw [List.length_map, List.length_range]
  refine kj_iconst (v := 1) X dX1_go_18 (by decide) ?_
  refine kj_iadd X dX1_go_19 ?_
  rw [nI_1]
  refine kj_callS X 2 (ct_X1_requireIndex X.F (j + 1) (nI (sN S 1 0 + 1)) (kr_S G (gA g) (kr_cells G g S Z)) kr_S.mono) (lw_S q568 q569 q43 q570) ⟨by decide, by decide, by decide +kernel⟩ dX1_go_20 rfl rfl (by first | exact Nat.le_of_ble_eq_true rfl | simp [kr_cat, Value.category]) ⟨Nat.le_of_ble_eq_true rfl, Nat.le_of_ble_eq_true rfl⟩ ⟨by dsimp only; omega, by dsimp only; omega⟩ (fun E => kjx_out X (by omega) (by omega) (fun H h => ⟨⟨Or.inr ⟨hir, h.1⟩, h.2.1⟩, h.2.2⟩)) (fun v_20 => ?_)
  refine kj_and (fun hr => ?_)
  refine kj_and (fun e => ?_)
  subst e
  obtain ⟨m, hm, hmn⟩ := kr_ix hr (by omega)
  have hjm : j = nI m - 1 := by rw [← hm, Int32.add_sub_cancel]
  have hle := hat k hk
  have back : kr_J G x 5 (kr_Q G x 2 12 (fun v H => ∃ a : Nat × Nat, (nI k = nI a.1 ∧ a.1 < sN S 2 0 ∧ j + 1 = nI a.2 ∧ a.2 ≤ sN S 1 0 ∧ v = some (.int (nI (sN S 10 a.1) - 1))) ∧ kr_S G (gA g) (kr_cells G g (uN S 10 a.1 a.2) Z) H) (fun E H => ((¬ (0 ≤ nI k ∧ nI k < nI (sN S 2 0)) ∨ ((0 ≤ nI k ∧ nI k < nI (sN S 2 0)) ∧ ¬ (0 ≤ j + 1 ∧ j + 1 < nI (sN S 1 0 + 1)))) ∧ E = kE_I) ∧ kr_S G (gA g) (kr_cells G g S Z) H)) (kr_S G (gA g) (kr_cells G g S Z)) 2 12 41 [some (.ref (gA g (0, 0))), some (.int (nI k)), some (.int j), some (.ref (gA g (13, k))), none] [.int (nI (sN S 10 k) - 1)] := by
    cases m with
    | zero =>
      have hj1 : j = -1 := by rw [hjm]; decide
      refine kj_istore (lv' := [_, _, _, _, _]) X dX1_go_41 (by decide) (by intro w h _; cases h <;> first | rfl | exact kr_cat _) rfl ?_
      refine kj_aload_n X dX1_go_43 rfl rfl (by first | exact ⟨some _, rfl⟩ | exact ⟨none, rfl⟩ | exact ⟨_, rfl⟩) ?_
      refine kj_iload_n X dX1_go_44 rfl rfl ?_
      refine kj_iconst (v := -1) X dX1_go_45 (by decide) ?_
      refine kj_icmp_ne X 53 dX1_go_46 (by decide) (fun c_46 => ?_) (fun c_46 => ?_)
      · exact absurd hj1 c_46
      · refine kj_null X dX1_go_49 ?_
        refine kj_goto X 66 dX1_go_50 (by decide) ?_
        refine kj_putN X kc_X18 3 (by decide) q1482 rfl rfl dX1_go_66 (by first | rfl | exact kr_nar _ _ | exact kr_narb _) (by first | rfl | exact kr_fitr _ _ | exact kr_fitb _) (Nat.le_of_ble_eq_true rfl) (fun H h => h.own (kc_13 hk)) (fun H H1 h a u => h.upd (kc_13 hk) (ku_vat (v := 0) hk) a u) ?_
        refine kj_iload X dX1_go_69 rfl ?_
        exact kj_iret X dX1_go_71 (by omega) (by omega) (fun H h => ⟨(k, 0), ⟨rfl, hk, hm, by omega, rfl⟩, h⟩)
    | succ q =>
      have hjq : j = nI q := by rw [hjm, kr_dec (by omega)]; rfl
      have hq : q < sN S 1 0 := by omega
      subst hjq
      refine kj_istore (lv' := [_, _, _, _, _]) X dX1_go_41 (by decide) (by intro w h _; cases h <;> first | rfl | exact kr_cat _) rfl ?_
      refine kj_aload_n X dX1_go_43 rfl rfl (by first | exact ⟨some _, rfl⟩ | exact ⟨none, rfl⟩ | exact ⟨_, rfl⟩) ?_
      refine kj_iload_n X dX1_go_44 rfl rfl ?_
      refine kj_iconst (v := -1) X dX1_go_45 (by decide) ?_
      refine kj_icmp_ne X 53 dX1_go_46 (by decide) (fun c_46 => ?_) (fun c_46 => ?_)
      · refine kj_aload_n X dX1_go_53 rfl rfl (by first | exact ⟨some _, rfl⟩ | exact ⟨none, rfl⟩ | exact ⟨_, rfl⟩) ?_
        refine kj_get X kc_X1 1 (by decide) q227 (Or.inl rfl) dX1_go_54 (fun H h => h.own (kc_kio)) rfl ?_
        refine kj_iload_n X dX1_go_57 rfl rfl ?_
        refine kj_callF X 1 (ct_J2_get X.F kc_l1 (k := q) (a := gA g (5, q)) (by rw [List.getElem?_map, List.getElem?_range hq]; rfl)) q587 q590 q592 q46 q594 q589 q588 q593 q591 q148 ⟨by decide, by decide, by decide +kernel⟩ dX1_go_58 rfl rfl (by first | exact Nat.le_of_ble_eq_true rfl | simp [kr_cat, Value.category]) ⟨Nat.le_of_ble_eq_true rfl, Nat.le_of_ble_eq_true rfl⟩ ⟨by dsimp only; omega, by dsimp only; omega⟩ kc_J2.1 (fun H h => h.list (kc_l1)) (fun E => kjx_no) (fun v_58 => ?_)
        refine kj_and (fun e_58 => ?_)
        subst e_58
        refine kj_ccastR X kc_X15.1 q404 dX1_go_63 (fun H h => h.at (kc_5 hq)) ?_
        refine kj_putN X kc_X18 3 (by decide) q1482 rfl rfl dX1_go_66 (by first | rfl | exact kr_nar _ _ | exact kr_narb _) (by first | rfl | exact kr_fitr _ _ | exact kr_fitb _) (Nat.le_of_ble_eq_true rfl) (fun H h => h.own (kc_13 hk)) (fun H H1 h a u => h.upd (kc_13 hk) (ku_vat (v := q + 1) hk) a u) ?_
        refine kj_iload X dX1_go_69 rfl ?_
        exact kj_iret X dX1_go_71 (by omega) (by omega) (fun H h => ⟨(k, q + 1), ⟨rfl, hk, hm, by omega, rfl⟩, h⟩)
      · exact absurd c_46 (fun z => absurd (nI_pos' (n := q) (by omega)) (by rw [z]; decide))
  have k13 : ∀ n, sN S 10 k = n → kr_cells G g S Z (13, k) = kr_o 7 [.ref (gA g (14, k)), .ref (gA g (15, k)), .ref (gA g (16, k)), va_rf (kr_op (fun i => gA g (5, i)) n)] := fun n e => by rw [kc_13 hk, e]
  cases e : sN S 10 k with
  | zero =>
    rw [e] at back
    refine kj_aload_n X dX1_go_23 rfl rfl (by first | exact ⟨some _, rfl⟩ | exact ⟨none, rfl⟩ | exact ⟨_, rfl⟩) ?_
    refine kj_getN X kc_X18 3 (by decide) q1482 rfl dX1_go_24 (fun H h => h.own (k13 0 e)) rfl ?_
    refine kj_ifnonnull X (by first | exact Eq.refl (va_rf (some _)) | exact Eq.refl (va_rf none) | exact Eq.refl (va_rf _)) 34 dX1_go_27 (by decide) (fun a_27 c_27 => ?_) (fun c_27 => ?_)
    · cases c_27
    refine kj_iconst (v := -1) X dX1_go_30 (by decide) ?_
    refine kj_goto X 41 dX1_go_31 (by decide) ?_
    exact back
  | succ q =>
    rw [e, kr_dec (by omega)] at back
    refine kj_aload_n X dX1_go_23 rfl rfl (by first | exact ⟨some _, rfl⟩ | exact ⟨none, rfl⟩ | exact ⟨_, rfl⟩) ?_
    refine kj_getN X kc_X18 3 (by decide) q1482 rfl dX1_go_24 (fun H h => h.own (k13 (q + 1) e)) rfl ?_
    refine kj_ifnonnull X (by first | exact Eq.refl (va_rf (some _)) | exact Eq.refl (va_rf none) | exact Eq.refl (va_rf _)) 34 dX1_go_27 (by decide) (fun a_27 c_27 => ?_) (fun c_27 => ?_)
    · refine kj_aload_n X dX1_go_34 rfl rfl (by first | exact ⟨some _, rfl⟩ | exact ⟨none, rfl⟩ | exact ⟨_, rfl⟩) ?_
      refine kj_getN X kc_X18 3 (by decide) q1482 rfl dX1_go_35 (fun H h => h.own (k13 (q + 1) e)) rfl ?_
      refine kj_getN X kc_X15 0 (by decide) q1067 rfl dX1_go_38 (fun H h => h.own (kc_5 (by omega))) rfl ?_
      exact back
    · cases c_27
end
