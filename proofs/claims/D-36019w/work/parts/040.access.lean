/-! ACCESS: by number; the plain questions -/
set_option maxRecDepth 100000
def kE_I : String := "java/lang/IndexOutOfBoundsException"
def kE_N : String := "java/util/NoSuchElementException"
def kE_A : String := "java/lang/IllegalArgumentException"
def kE_S : String := "java/lang/IllegalStateException"
theorem kr_ix {i : Int32} {n : Nat} (h : 0 ≤ i ∧ i < nI n) (hn : n < 2 ^ 31) : ∃ k, i = nI k ∧ k < n := by
  obtain ⟨k, hk, rfl⟩ := nI_of (Int32.not_lt.mpr h.1)
  exact ⟨k, rfl, (nI_ltI hk hn).mp h.2⟩
section
variable {G : kr_G} {l : Launch} {g g' : kr_Gh} {S S' : kr_St} {Z : kr_Ro → Option kr_AE}
theorem ct_X1_listAt (hF : kr_F G l) (i : Int32) (hn : sN S 0 0 ≤ 8) : kr_T G l yX1_listAt (ws_ yX1_listAt cX1_listAt 2 (Option.some (Jvm.ClassFile.FieldType.object "KioskReel$Playlist"))) 7 400 [.ref (gA g (0, 0)), .int i] (kr_S G (gA g) (kr_cells G g S Z)) 1 6 (fun v H => ∃ k, (i = nI k ∧ k < sN S 0 0 ∧ v = some (.ref (gA g (2, k)))) ∧ kr_S G (gA g) (kr_cells G g S Z) H) (fun E H => (¬ (0 ≤ i ∧ i < nI (sN S 0 0)) ∧ E = kE_I) ∧ kr_S G (gA g) (kr_cells G g S Z) H) := by
  refine kr_T.of (by decide +kernel) hF (by simp [Value.category]) (Nat.le_of_ble_eq_true rfl) (fun x hx X => ?_)
  refine kj_iload_n X dX1_listAt_0 rfl rfl ?_
  refine kj_aload_n X dX1_listAt_1 rfl rfl (by first | exact ⟨some _, rfl⟩ | exact ⟨none, rfl⟩ | exact ⟨_, rfl⟩) ?_
  refine kj_get X kc_X1 0 (by decide) q226 (Or.inl rfl) dX1_listAt_2 (fun H h => h.own (kc_kio)) rfl ?_
  refine kj_callF X 0 (ct_J2_size X.F kc_l0) q478 q481 q483 q46 q485 q480 q479 q484 q482 q148 ⟨by decide, by decide, by decide +kernel⟩ dX1_listAt_5 rfl rfl (by first | exact Nat.le_of_ble_eq_true rfl | simp [kr_cat, Value.category]) ⟨Nat.le_of_ble_eq_true rfl, Nat.le_of_ble_eq_true rfl⟩ ⟨by dsimp only; omega, by dsimp only; omega⟩ kc_J2.1 (fun H h => h.list (kc_l0)) (fun E => kjx_no) (fun v_5 => ?_)
  refine kj_and (fun e_5 => ?_)
  subst e_5
  rw [List.length_map, List.length_range]
  refine kj_callS X 2 (ct_X1_requireIndex X.F i (nI (sN S 0 0)) (kr_S G (gA g) (kr_cells G g S Z)) kr_S.mono) (lw_S q568 q569 q43 q570) ⟨by decide, by decide, by decide +kernel⟩ dX1_listAt_10 rfl rfl (by first | exact Nat.le_of_ble_eq_true rfl | simp [kr_cat, Value.category]) ⟨Nat.le_of_ble_eq_true rfl, Nat.le_of_ble_eq_true rfl⟩ ⟨by dsimp only; omega, by dsimp only; omega⟩ (fun E => kjx_out X (by omega) (by omega) (fun H h => ⟨⟨h.1, h.2.1⟩, h.2.2⟩)) (fun v_10 => ?_)
  refine kj_and (fun hr => ?_)
  refine kj_and (fun e => ?_)
  subst e
  obtain ⟨k, rfl, hk⟩ := kr_ix hr (by omega)
  refine kj_aload_n X dX1_listAt_13 rfl rfl (by first | exact ⟨some _, rfl⟩ | exact ⟨none, rfl⟩ | exact ⟨_, rfl⟩) ?_
  refine kj_get X kc_X1 0 (by decide) q226 (Or.inl rfl) dX1_listAt_14 (fun H h => h.own (kc_kio)) rfl ?_
  refine kj_iload_n X dX1_listAt_17 rfl rfl ?_
  refine kj_callF X 1 (ct_J2_get X.F kc_l0 (k := k) (a := gA g (2, k)) (by rw [List.getElem?_map, List.getElem?_range hk]; rfl)) q587 q590 q592 q46 q594 q589 q588 q593 q591 q148 ⟨by decide, by decide, by decide +kernel⟩ dX1_listAt_18 rfl rfl (by first | exact Nat.le_of_ble_eq_true rfl | simp [kr_cat, Value.category]) ⟨Nat.le_of_ble_eq_true rfl, Nat.le_of_ble_eq_true rfl⟩ ⟨by dsimp only; omega, by dsimp only; omega⟩ kc_J2.1 (fun H h => h.list (kc_l0)) (fun E => kjx_no) (fun v_18 => ?_)
  refine kj_and (fun e_18 => ?_)
  subst e_18
  refine kj_ccastR X kc_X4.1 q504 dX1_listAt_23 (fun H h => h.at (kc_2 hk)) ?_
  exact kj_aret X (Or.inl ⟨_, rfl⟩) (by first | exact ⟨some _, rfl⟩ | exact ⟨none, rfl⟩ | exact ⟨_, rfl⟩) dX1_listAt_26 (by omega) (by omega) (fun H h => ⟨k, ⟨rfl, hk, rfl⟩, h⟩)
theorem ct_X1_kioskAt (hF : kr_F G l) (i : Int32) (hn : sN S 1 0 ≤ 6) : kr_T G l yX1_kioskAt (ws_ yX1_kioskAt cX1_kioskAt 2 (Option.some (Jvm.ClassFile.FieldType.object "KioskReel$Kiosk"))) 7 400 [.ref (gA g (0, 0)), .int i] (kr_S G (gA g) (kr_cells G g S Z)) 1 6 (fun v H => ∃ k, (i = nI k ∧ k < sN S 1 0 ∧ v = some (.ref (gA g (5, k)))) ∧ kr_S G (gA g) (kr_cells G g S Z) H) (fun E H => (¬ (0 ≤ i ∧ i < nI (sN S 1 0)) ∧ E = kE_I) ∧ kr_S G (gA g) (kr_cells G g S Z) H) := by
  refine kr_T.of (by decide +kernel) hF (by simp [Value.category]) (Nat.le_of_ble_eq_true rfl) (fun x hx X => ?_)
  refine kj_iload_n X dX1_kioskAt_0 rfl rfl ?_
  refine kj_aload_n X dX1_kioskAt_1 rfl rfl (by first | exact ⟨some _, rfl⟩ | exact ⟨none, rfl⟩ | exact ⟨_, rfl⟩) ?_
  refine kj_get X kc_X1 1 (by decide) q227 (Or.inl rfl) dX1_kioskAt_2 (fun H h => h.own (kc_kio)) rfl ?_
  refine kj_callF X 0 (ct_J2_size X.F kc_l1) q478 q481 q483 q46 q485 q480 q479 q484 q482 q148 ⟨by decide, by decide, by decide +kernel⟩ dX1_kioskAt_5 rfl rfl (by first | exact Nat.le_of_ble_eq_true rfl | simp [kr_cat, Value.category]) ⟨Nat.le_of_ble_eq_true rfl, Nat.le_of_ble_eq_true rfl⟩ ⟨by dsimp only; omega, by dsimp only; omega⟩ kc_J2.1 (fun H h => h.list (kc_l1)) (fun E => kjx_no) (fun v_5 => ?_)
  refine kj_and (fun e_5 => ?_)
  subst e_5
  rw [List.length_map, List.length_range]
  refine kj_callS X 2 (ct_X1_requireIndex X.F i (nI (sN S 1 0)) (kr_S G (gA g) (kr_cells G g S Z)) kr_S.mono) (lw_S q568 q569 q43 q570) ⟨by decide, by decide, by decide +kernel⟩ dX1_kioskAt_10 rfl rfl (by first | exact Nat.le_of_ble_eq_true rfl | simp [kr_cat, Value.category]) ⟨Nat.le_of_ble_eq_true rfl, Nat.le_of_ble_eq_true rfl⟩ ⟨by dsimp only; omega, by dsimp only; omega⟩ (fun E => kjx_out X (by omega) (by omega) (fun H h => ⟨⟨h.1, h.2.1⟩, h.2.2⟩)) (fun v_10 => ?_)
  refine kj_and (fun hr => ?_)
  refine kj_and (fun e => ?_)
  subst e
  obtain ⟨k, rfl, hk⟩ := kr_ix hr (by omega)
  refine kj_aload_n X dX1_kioskAt_13 rfl rfl (by first | exact ⟨some _, rfl⟩ | exact ⟨none, rfl⟩ | exact ⟨_, rfl⟩) ?_
  refine kj_get X kc_X1 1 (by decide) q227 (Or.inl rfl) dX1_kioskAt_14 (fun H h => h.own (kc_kio)) rfl ?_
  refine kj_iload_n X dX1_kioskAt_17 rfl rfl ?_
  refine kj_callF X 1 (ct_J2_get X.F kc_l1 (k := k) (a := gA g (5, k)) (by rw [List.getElem?_map, List.getElem?_range hk]; rfl)) q587 q590 q592 q46 q594 q589 q588 q593 q591 q148 ⟨by decide, by decide, by decide +kernel⟩ dX1_kioskAt_18 rfl rfl (by first | exact Nat.le_of_ble_eq_true rfl | simp [kr_cat, Value.category]) ⟨Nat.le_of_ble_eq_true rfl, Nat.le_of_ble_eq_true rfl⟩ ⟨by dsimp only; omega, by dsimp only; omega⟩ kc_J2.1 (fun H h => h.list (kc_l1)) (fun E => kjx_no) (fun v_18 => ?_)
  refine kj_and (fun e_18 => ?_)
  subst e_18
  refine kj_ccastR X kc_X15.1 q404 dX1_kioskAt_23 (fun H h => h.at (kc_5 hk)) ?_
  exact kj_aret X (Or.inl ⟨_, rfl⟩) (by first | exact ⟨some _, rfl⟩ | exact ⟨none, rfl⟩ | exact ⟨_, rfl⟩) dX1_kioskAt_26 (by omega) (by omega) (fun H h => ⟨k, ⟨rfl, hk, rfl⟩, h⟩)
theorem ct_X1_visitorAt (hF : kr_F G l) (i : Int32) (hn : sN S 2 0 ≤ 10) : kr_T G l yX1_visitorAt (ws_ yX1_visitorAt cX1_visitorAt 2 (Option.some (Jvm.ClassFile.FieldType.object "KioskReel$Visitor"))) 7 400 [.ref (gA g (0, 0)), .int i] (kr_S G (gA g) (kr_cells G g S Z)) 1 6 (fun v H => ∃ k, (i = nI k ∧ k < sN S 2 0 ∧ v = some (.ref (gA g (13, k)))) ∧ kr_S G (gA g) (kr_cells G g S Z) H) (fun E H => (¬ (0 ≤ i ∧ i < nI (sN S 2 0)) ∧ E = kE_I) ∧ kr_S G (gA g) (kr_cells G g S Z) H) := by
  refine kr_T.of (by decide +kernel) hF (by simp [Value.category]) (Nat.le_of_ble_eq_true rfl) (fun x hx X => ?_)
  refine kj_iload_n X dX1_visitorAt_0 rfl rfl ?_
  refine kj_aload_n X dX1_visitorAt_1 rfl rfl (by first | exact ⟨some _, rfl⟩ | exact ⟨none, rfl⟩ | exact ⟨_, rfl⟩) ?_
  refine kj_get X kc_X1 3 (by decide) q231 (Or.inl rfl) dX1_visitorAt_2 (fun H h => h.own (kc_kio)) rfl ?_
  refine kj_callF X 0 (ct_J2_size X.F kc_l3) q478 q481 q483 q46 q485 q480 q479 q484 q482 q148 ⟨by decide, by decide, by decide +kernel⟩ dX1_visitorAt_5 rfl rfl (by first | exact Nat.le_of_ble_eq_true rfl | simp [kr_cat, Value.category]) ⟨Nat.le_of_ble_eq_true rfl, Nat.le_of_ble_eq_true rfl⟩ ⟨by dsimp only; omega, by dsimp only; omega⟩ kc_J2.1 (fun H h => h.list (kc_l3)) (fun E => kjx_no) (fun v_5 => ?_)
  refine kj_and (fun e_5 => ?_)
  subst e_5
  rw [List.length_map, List.length_range]
  refine kj_callS X 2 (ct_X1_requireIndex X.F i (nI (sN S 2 0)) (kr_S G (gA g) (kr_cells G g S Z)) kr_S.mono) (lw_S q568 q569 q43 q570) ⟨by decide, by decide, by decide +kernel⟩ dX1_visitorAt_10 rfl rfl (by first | exact Nat.le_of_ble_eq_true rfl | simp [kr_cat, Value.category]) ⟨Nat.le_of_ble_eq_true rfl, Nat.le_of_ble_eq_true rfl⟩ ⟨by dsimp only; omega, by dsimp only; omega⟩ (fun E => kjx_out X (by omega) (by omega) (fun H h => ⟨⟨h.1, h.2.1⟩, h.2.2⟩)) (fun v_10 => ?_)
  refine kj_and (fun hr => ?_)
  refine kj_and (fun e => ?_)
  subst e
  obtain ⟨k, rfl, hk⟩ := kr_ix hr (by omega)
  refine kj_aload_n X dX1_visitorAt_13 rfl rfl (by first | exact ⟨some _, rfl⟩ | exact ⟨none, rfl⟩ | exact ⟨_, rfl⟩) ?_
  refine kj_get X kc_X1 3 (by decide) q231 (Or.inl rfl) dX1_visitorAt_14 (fun H h => h.own (kc_kio)) rfl ?_
  refine kj_iload_n X dX1_visitorAt_17 rfl rfl ?_
  refine kj_callF X 1 (ct_J2_get X.F kc_l3 (k := k) (a := gA g (13, k)) (by rw [List.getElem?_map, List.getElem?_range hk]; rfl)) q587 q590 q592 q46 q594 q589 q588 q593 q591 q148 ⟨by decide, by decide, by decide +kernel⟩ dX1_visitorAt_18 rfl rfl (by first | exact Nat.le_of_ble_eq_true rfl | simp [kr_cat, Value.category]) ⟨Nat.le_of_ble_eq_true rfl, Nat.le_of_ble_eq_true rfl⟩ ⟨by dsimp only; omega, by dsimp only; omega⟩ kc_J2.1 (fun H h => h.list (kc_l3)) (fun E => kjx_no) (fun v_18 => ?_)
  refine kj_and (fun e_18 => ?_)
  subst e_18
  refine kj_ccastR X kc_X18.1 q468 dX1_visitorAt_23 (fun H h => h.at (kc_13 hk)) ?_
  exact kj_aret X (Or.inl ⟨_, rfl⟩) (by first | exact ⟨some _, rfl⟩ | exact ⟨none, rfl⟩ | exact ⟨_, rfl⟩) dX1_visitorAt_26 (by omega) (by omega) (fun H h => ⟨k, ⟨rfl, hk, rfl⟩, h⟩)
theorem ct_X1_deviceAt (hF : kr_F G l) (i : Int32) (hD : sN S 14 0 = 6) : kr_T G l yX1_deviceAt (ws_ yX1_deviceAt cX1_deviceAt 2 (Option.some (Jvm.ClassFile.FieldType.object "KioskReel$Device"))) 7 400 [.ref (gA g (0, 0)), .int i] (kr_S G (gA g) (kr_cells G g S Z)) 1 6 (fun v H => ∃ k, (i = nI k ∧ k < 6 ∧ v = some (.ref (gA g (11, k)))) ∧ kr_S G (gA g) (kr_cells G g S Z) H) (fun E H => (¬ (0 ≤ i ∧ i < 6) ∧ E = kE_I) ∧ kr_S G (gA g) (kr_cells G g S Z) H) := by
  refine kr_T.of (by decide +kernel) hF (by simp [Value.category]) (Nat.le_of_ble_eq_true rfl) (fun x hx X => ?_)
  refine kj_iload_n X dX1_deviceAt_0 rfl rfl ?_
  refine kj_bipush (v := 6) X dX1_deviceAt_1 (by decide) ?_
  refine kj_callS X 2 (ct_X1_requireIndex X.F i 6 (kr_S G (gA g) (kr_cells G g S Z)) kr_S.mono) (lw_S q568 q569 q43 q570) ⟨by decide, by decide, by decide +kernel⟩ dX1_deviceAt_3 rfl rfl (by first | exact Nat.le_of_ble_eq_true rfl | simp [kr_cat, Value.category]) ⟨Nat.le_of_ble_eq_true rfl, Nat.le_of_ble_eq_true rfl⟩ ⟨by dsimp only; omega, by dsimp only; omega⟩ (fun E => kjx_out X (by omega) (by omega) (fun H h => ⟨⟨h.1, h.2.1⟩, h.2.2⟩)) (fun v_3 => ?_)
  refine kj_and (fun hr => ?_)
  refine kj_and (fun e => ?_)
  subst e
  obtain ⟨k, rfl, hk⟩ := kr_ix (n := 6) hr (by decide)
  have hk6 : k < sN S 14 0 := by omega
  refine kj_aload_n X dX1_deviceAt_6 rfl rfl (by first | exact ⟨some _, rfl⟩ | exact ⟨none, rfl⟩ | exact ⟨_, rfl⟩) ?_
  refine kj_get X kc_X1 2 (by decide) q230 (Or.inl rfl) dX1_deviceAt_7 (fun H h => h.own (kc_kio)) rfl ?_
  refine kj_iload_n X dX1_deviceAt_10 rfl rfl ?_
  refine kj_callF X 1 (ct_J2_get X.F kc_l2 (k := k) (a := gA g (11, k)) (by rw [List.getElem?_map, List.getElem?_range hk6]; rfl)) q587 q590 q592 q46 q594 q589 q588 q593 q591 q148 ⟨by decide, by decide, by decide +kernel⟩ dX1_deviceAt_11 rfl rfl (by first | exact Nat.le_of_ble_eq_true rfl | simp [kr_cat, Value.category]) ⟨Nat.le_of_ble_eq_true rfl, Nat.le_of_ble_eq_true rfl⟩ ⟨by dsimp only; omega, by dsimp only; omega⟩ kc_J2.1 (fun H h => h.list (kc_l2)) (fun E => kjx_no) (fun v_11 => ?_)
  refine kj_and (fun e_11 => ?_)
  subst e_11
  refine kj_ccastR X kc_X2.1 q126 dX1_deviceAt_16 (fun H h => h.at (kc_11 hk6)) ?_
  exact kj_aret X (Or.inl ⟨_, rfl⟩) (by first | exact ⟨some _, rfl⟩ | exact ⟨none, rfl⟩ | exact ⟨_, rfl⟩) dX1_deviceAt_19 (by omega) (by omega) (fun H h => ⟨k, ⟨rfl, hk, rfl⟩, h⟩)
/-- what fails where there is no player -/
def kx_P (S : kr_St) (i : Int32) (E : String) : Prop := (¬ (0 ≤ i ∧ i < nI (sN S 1 0)) ∧ E = kE_I) ∨ ∃ k, i = nI k ∧ k < sN S 1 0 ∧ sN S 3 k ≠ 1 ∧ E = kE_N
theorem ct_X1_playerOf (hF : kr_F G l) (i : Int32) (hn : sN S 1 0 ≤ 6) : kr_T G l yX1_playerOf (ws_ yX1_playerOf cX1_playerOf 3 (Option.some (Jvm.ClassFile.FieldType.object "KioskReel$Player"))) 8 500 [.ref (gA g (0, 0)), .int i] (kr_S G (gA g) (kr_cells G g S Z)) 2 12 (fun v H => ∃ k, (i = nI k ∧ k < sN S 1 0 ∧ sN S 3 k = 1 ∧ v = some (.ref (gA g (7, k)))) ∧ kr_S G (gA g) (kr_cells G g S Z) H) (fun E H => kx_P S i E ∧ kr_S G (gA g) (kr_cells G g S Z) H) := by
  refine kr_T.of (by decide +kernel) hF (by simp [Value.category]) (Nat.le_of_ble_eq_true rfl) (fun x hx X => ?_)
  refine kj_aload_n X dX1_playerOf_0 rfl rfl (by first | exact ⟨some _, rfl⟩ | exact ⟨none, rfl⟩ | exact ⟨_, rfl⟩) ?_
  refine kj_iload_n X dX1_playerOf_1 rfl rfl ?_
  refine kj_callV X 1 (ct_X1_kioskAt X.F i hn) (lw_V q1099 q1101 qs10 q43 q1102) ⟨rfl, by decide, by decide, by decide +kernel⟩ dX1_playerOf_2 rfl rfl (by first | exact Nat.le_of_ble_eq_true rfl | simp [kr_cat, Value.category]) ⟨Nat.le_of_ble_eq_true rfl, Nat.le_of_ble_eq_true rfl⟩ ⟨by dsimp only; omega, by dsimp only; omega⟩ kc_X1.1 (fun H h => h.rc (kc_kio)) (fun E => kjx_out X (by omega) (by omega) (fun H h => ⟨Or.inl h.1, h.2⟩)) (fun v_2 => ?_)
  refine kj_open (fun k hk => ?_)
  obtain ⟨rfl, hk, rfl⟩ := hk
  by_cases ho : sN S 3 k = 1
  · have k5 : kr_cells G g S Z (5, k) = kr_o 6 [.int (nI k), .ref (gA g (6, k)), va_rf (some (gA g (7, k))), .int (nI (sN S 6 k)), .int (nI (sN S 7 k)), .int (sI S 3 k), .int (sI S 4 k)] := by
      rw [kc_5 hk, show kr_ow g (sN S 3 k) k = some (gA g (7, k)) from if_pos ho]
    refine kj_getN X kc_X15 2 (by decide) q1071 rfl dX1_playerOf_5 (fun H h => h.own (k5)) rfl ?_
    refine kj_astore_n (lv' := [_, _, _]) X dX1_playerOf_8 rfl (by decide) (by intro w h _; cases h <;> first | rfl | exact kr_cat _) (by first | exact ⟨some _, rfl⟩ | exact ⟨none, rfl⟩ | exact ⟨_, rfl⟩) rfl ?_
    refine kj_aload_n X dX1_playerOf_9 rfl rfl (by first | exact ⟨some _, rfl⟩ | exact ⟨none, rfl⟩ | exact ⟨_, rfl⟩) ?_
    refine kj_ifnull X (by first | exact Eq.refl (va_rf (some _)) | exact Eq.refl (va_rf none) | exact Eq.refl (va_rf _)) 17 dX1_playerOf_10 (by decide) (fun c_10 => ?_) (fun a_10 c_10 => ?_)
    · cases c_10
    refine kj_iconst (v := 1) X dX1_playerOf_13 (by decide) ?_
    refine kj_goto X 18 dX1_playerOf_14 (by decide) ?_
    refine kj_callS X 1 (ct_X1_requireElement X.F true (kr_S G (gA g) (kr_cells G g S Z)) kr_S.mono) (lw_S q1193 q1194 q43 q1195) ⟨by decide, by decide, by decide +kernel⟩ dX1_playerOf_18 rfl rfl (by first | exact Nat.le_of_ble_eq_true rfl | simp [kr_cat, Value.category]) ⟨Nat.le_of_ble_eq_true rfl, Nat.le_of_ble_eq_true rfl⟩ ⟨by dsimp only; omega, by dsimp only; omega⟩ (fun E => kjx_pure (fun H h => h.1) (fun z => by cases z)) (fun v_18 => ?_)
    refine kj_and (fun _ => ?_)
    refine kj_and (fun e => ?_)
    subst e
    refine kj_aload_n X dX1_playerOf_21 rfl rfl (by first | exact ⟨some _, rfl⟩ | exact ⟨none, rfl⟩ | exact ⟨_, rfl⟩) ?_
    exact kj_aret X (Or.inl ⟨_, rfl⟩) (by first | exact ⟨some _, rfl⟩ | exact ⟨none, rfl⟩ | exact ⟨_, rfl⟩) dX1_playerOf_22 (by omega) (by omega) (fun H h => ⟨k, ⟨rfl, hk, ho, rfl⟩, h⟩)
  · have k5 : kr_cells G g S Z (5, k) = kr_o 6 [.int (nI k), .ref (gA g (6, k)), va_rf none, .int (nI (sN S 6 k)), .int (nI (sN S 7 k)), .int (sI S 3 k), .int (sI S 4 k)] := by
      rw [kc_5 hk, show kr_ow g (sN S 3 k) k = none from if_neg ho]
    refine kj_getN X kc_X15 2 (by decide) q1071 rfl dX1_playerOf_5 (fun H h => h.own (k5)) rfl ?_
    refine kj_astore_n (lv' := [_, _, _]) X dX1_playerOf_8 rfl (by decide) (by intro w h _; cases h <;> first | rfl | exact kr_cat _) (by first | exact ⟨some _, rfl⟩ | exact ⟨none, rfl⟩ | exact ⟨_, rfl⟩) rfl ?_
    refine kj_aload_n X dX1_playerOf_9 rfl rfl (by first | exact ⟨some _, rfl⟩ | exact ⟨none, rfl⟩ | exact ⟨_, rfl⟩) ?_
    refine kj_ifnull X (by first | exact Eq.refl (va_rf (some _)) | exact Eq.refl (va_rf none) | exact Eq.refl (va_rf _)) 17 dX1_playerOf_10 (by decide) (fun c_10 => ?_) (fun a_10 c_10 => ?_)
    rotate_left
    · cases c_10
    refine kj_iconst (v := 0) X dX1_playerOf_17 (by decide) ?_
    refine kj_callS X 1 (ct_X1_requireElement X.F false (kr_S G (gA g) (kr_cells G g S Z)) kr_S.mono) (lw_S q1193 q1194 q43 q1195) ⟨by decide, by decide, by decide +kernel⟩ dX1_playerOf_18 rfl rfl (by first | exact Nat.le_of_ble_eq_true rfl | simp [kr_cat, Value.category]) ⟨Nat.le_of_ble_eq_true rfl, Nat.le_of_ble_eq_true rfl⟩ ⟨by dsimp only; omega, by dsimp only; omega⟩ (fun E => kjx_out X (by omega) (by omega) (fun H h => ⟨Or.inr ⟨k, rfl, hk, ho, h.2.1⟩, h.2.2⟩)) (fun v_18 => ?_)
    refine kj_and (fun z => ?_)
    cases z
/-- freeze -/
theorem ct_X1_freeze (hF : kr_F G l) (i : Int32) (hn : sN S 1 0 ≤ 6) (hb : ∀ k, k < sN S 1 0 → sN S 6 k < 2) : kr_T G l yX1_freeze (ws_ yX1_freeze cX1_freeze 4 (Option.some Jvm.ClassFile.FieldType.boolean)) 8 500 [.ref (gA g (0, 0)), .int i] (kr_S G (gA g) (kr_cells G g S Z)) 1 6 (fun v H => ∃ k, (i = nI k ∧ k < sN S 1 0 ∧ v = some (.int (kr_b (decide (sN S 6 k = 0))))) ∧ kr_S G (gA g) (kr_cells G g (uN S 6 k 1) Z) H) (fun E H => (¬ (0 ≤ i ∧ i < nI (sN S 1 0)) ∧ E = kE_I) ∧ kr_S G (gA g) (kr_cells G g S Z) H) := by
  refine kr_T.of (by decide +kernel) hF (by simp [Value.category]) (Nat.le_of_ble_eq_true rfl) (fun x hx X => ?_)
  refine kj_aload_n X dX1_freeze_0 rfl rfl (by first | exact ⟨some _, rfl⟩ | exact ⟨none, rfl⟩ | exact ⟨_, rfl⟩) ?_
  refine kj_iload_n X dX1_freeze_1 rfl rfl ?_
  refine kj_callV X 1 (ct_X1_kioskAt X.F i hn) (lw_V q1099 q1101 qs10 q43 q1102) ⟨rfl, by decide, by decide, by decide +kernel⟩ dX1_freeze_2 rfl rfl (by first | exact Nat.le_of_ble_eq_true rfl | simp [kr_cat, Value.category]) ⟨Nat.le_of_ble_eq_true rfl, Nat.le_of_ble_eq_true rfl⟩ ⟨by dsimp only; omega, by dsimp only; omega⟩ kc_X1.1 (fun H h => h.rc (kc_kio)) (fun E => kjx_out X (by omega) (by omega) (fun H h => h)) (fun v_2 => ?_)
  refine kj_open (fun k hk => ?_)
  obtain ⟨rfl, hk, rfl⟩ := hk
  have h2 := hb k hk
  refine kj_astore_n (lv' := [_, _, _, _]) X dX1_freeze_5 rfl (by decide) (by intro w h _; cases h <;> first | rfl | exact kr_cat _) (by first | exact ⟨some _, rfl⟩ | exact ⟨none, rfl⟩ | exact ⟨_, rfl⟩) rfl ?_
  refine kj_aload_n X dX1_freeze_6 rfl rfl (by first | exact ⟨some _, rfl⟩ | exact ⟨none, rfl⟩ | exact ⟨_, rfl⟩) ?_
  refine kj_getN X kc_X15 3 (by decide) q1072 rfl dX1_freeze_7 (fun H h => h.own (kc_5 hk)) rfl ?_
  refine kj_istore_n (lv' := [_, _, _, _]) X dX1_freeze_10 rfl (by decide) (by intro w h _; cases h <;> first | rfl | exact kr_cat _) rfl ?_
  refine kj_aload_n X dX1_freeze_11 rfl rfl (by first | exact ⟨some _, rfl⟩ | exact ⟨none, rfl⟩ | exact ⟨_, rfl⟩) ?_
  refine kj_iconst (v := 1) X dX1_freeze_12 (by decide) ?_
  refine kj_putN X kc_X15 3 (by decide) q1072 rfl rfl dX1_freeze_13 (by first | rfl | exact kr_nar _ _ | exact kr_narb _) (by first | rfl | exact kr_fitr _ _ | exact kr_fitb _) (Nat.le_of_ble_eq_true rfl) (fun H h => h.own (kc_5 hk)) (fun H H1 h a u => h.upd (kc_5 hk) (ku_fz (v := 1) hk) a u) ?_
  refine kj_iload_n X dX1_freeze_16 rfl rfl ?_
  refine kj_if_ne X 24 dX1_freeze_17 (by decide) (fun c_17 => ?_) (fun c_17 => ?_)
  · have e : ¬ sN S 6 k = 0 := fun z => c_17 (by rw [z]; rfl)
    refine kj_iconst (v := 0) X dX1_freeze_24 (by decide) ?_
    exact kj_zret X rfl dX1_freeze_25 (by omega) (by omega) (fun H h => ⟨k, ⟨rfl, hk, by rw [decide_eq_false e]; rfl⟩, h⟩)
  · have e : sN S 6 k = 0 := (nI_eq (b := 0) (by omega) (by omega)).mp c_17
    refine kj_iconst (v := 1) X dX1_freeze_20 (by decide) ?_
    refine kj_goto X 25 dX1_freeze_21 (by decide) ?_
    exact kj_zret X rfl dX1_freeze_25 (by omega) (by omega) (fun H h => ⟨k, ⟨rfl, hk, by rw [decide_eq_true e]; rfl⟩, h⟩)
/-- count -/
theorem ct_X1_count (hF : kr_F G l) (i : Int32) (hn : sN S 1 0 ≤ 6) (hok : ∀ k, sN S 3 k = 1 → sN S 15 k = 1) : kr_T G l yX1_count (ws_ yX1_count cX1_count 2 (Option.some Jvm.ClassFile.FieldType.int)) 9 600 [.ref (gA g (0, 0)), .int i] (kr_S G (gA g) (kr_cells G g S Z)) 2 12 (fun v H => ∃ k, (i = nI k ∧ k < sN S 1 0 ∧ sN S 3 k = 1 ∧ v = some (.int (sI S 1 k))) ∧ kr_S G (gA g) (kr_cells G g S Z) H) (fun E H => kx_P S i E ∧ kr_S G (gA g) (kr_cells G g S Z) H) := by
  refine kr_T.of (by decide +kernel) hF (by simp [Value.category]) (Nat.le_of_ble_eq_true rfl) (fun x hx X => ?_)
  refine kj_aload_n X dX1_count_0 rfl rfl (by first | exact ⟨some _, rfl⟩ | exact ⟨none, rfl⟩ | exact ⟨_, rfl⟩) ?_
  refine kj_iload_n X dX1_count_1 rfl rfl ?_
  refine kj_callV X 1 (ct_X1_playerOf X.F i hn) (lw_V q1189 q1191 qs13 q43 q1192) ⟨rfl, by decide, by decide, by decide +kernel⟩ dX1_count_2 rfl rfl (by first | exact Nat.le_of_ble_eq_true rfl | simp [kr_cat, Value.category]) ⟨Nat.le_of_ble_eq_true rfl, Nat.le_of_ble_eq_true rfl⟩ ⟨by dsimp only; omega, by dsimp only; omega⟩ kc_X1.1 (fun H h => h.rc (kc_kio)) (fun E => kjx_out X (by omega) (by omega) (fun H h => h)) (fun v_2 => ?_)
  refine kj_open (fun k hk => ?_)
  obtain ⟨rfl, hk, ho, rfl⟩ := hk
  refine kj_getN X kc_X16 3 (by decide) q1146 rfl dX1_count_5 (fun H h => h.own (kc_7 (hok k ho))) rfl ?_
  exact kj_iret X dX1_count_8 (by omega) (by omega) (fun H h => ⟨k, ⟨rfl, hk, ho, rfl⟩, h⟩)
/-- waits -/
theorem ct_X1_waits (hF : kr_F G l) (i : Int32) (hn : sN S 1 0 ≤ 6) (hok : ∀ k, sN S 3 k = 1 → sN S 15 k = 1) (hb : ∀ k, sN S 15 k = 1 → sN S 8 k < 2) : kr_T G l yX1_waits (ws_ yX1_waits cX1_waits 3 (Option.some Jvm.ClassFile.FieldType.int)) 9 600 [.ref (gA g (0, 0)), .int i] (kr_S G (gA g) (kr_cells G g S Z)) 2 12 (fun v H => ∃ k, (i = nI k ∧ k < sN S 1 0 ∧ sN S 3 k = 1 ∧ v = some (.int (if sN S 8 k = 0 then sI S 2 k else 100))) ∧ kr_S G (gA g) (kr_cells G g S Z) H) (fun E H => kx_P S i E ∧ kr_S G (gA g) (kr_cells G g S Z) H) := by
  refine kr_T.of (by decide +kernel) hF (by simp [Value.category]) (Nat.le_of_ble_eq_true rfl) (fun x hx X => ?_)
  refine kj_aload_n X dX1_waits_0 rfl rfl (by first | exact ⟨some _, rfl⟩ | exact ⟨none, rfl⟩ | exact ⟨_, rfl⟩) ?_
  refine kj_iload_n X dX1_waits_1 rfl rfl ?_
  refine kj_callV X 1 (ct_X1_playerOf X.F i hn) (lw_V q1189 q1191 qs13 q43 q1192) ⟨rfl, by decide, by decide, by decide +kernel⟩ dX1_waits_2 rfl rfl (by first | exact Nat.le_of_ble_eq_true rfl | simp [kr_cat, Value.category]) ⟨Nat.le_of_ble_eq_true rfl, Nat.le_of_ble_eq_true rfl⟩ ⟨by dsimp only; omega, by dsimp only; omega⟩ kc_X1.1 (fun H h => h.rc (kc_kio)) (fun E => kjx_out X (by omega) (by omega) (fun H h => h)) (fun v_2 => ?_)
  refine kj_open (fun k hk => ?_)
  obtain ⟨rfl, hk, ho, rfl⟩ := hk
  have h2 := hb k (hok k ho)
  refine kj_astore_n (lv' := [_, _, _]) X dX1_waits_5 rfl (by decide) (by intro w h _; cases h <;> first | rfl | exact kr_cat _) (by first | exact ⟨some _, rfl⟩ | exact ⟨none, rfl⟩ | exact ⟨_, rfl⟩) rfl ?_
  refine kj_aload_n X dX1_waits_6 rfl rfl (by first | exact ⟨some _, rfl⟩ | exact ⟨none, rfl⟩ | exact ⟨_, rfl⟩) ?_
  refine kj_getN X kc_X16 5 (by decide) q1151 rfl dX1_waits_7 (fun H h => h.own (kc_7 (hok k ho))) rfl ?_
  refine kj_if_eq X 18 dX1_waits_10 (by decide) (fun c_10 => ?_) (fun c_10 => ?_)
  · have e : sN S 8 k = 0 := (nI_eq (b := 0) (by omega) (by omega)).mp c_10
    refine kj_aload_n X dX1_waits_18 rfl rfl (by first | exact ⟨some _, rfl⟩ | exact ⟨none, rfl⟩ | exact ⟨_, rfl⟩) ?_
    refine kj_getN X kc_X16 4 (by decide) q1148 rfl dX1_waits_19 (fun H h => h.own (kc_7 (hok k ho))) rfl ?_
    exact kj_iret X dX1_waits_22 (by omega) (by omega) (fun H h => ⟨k, ⟨rfl, hk, ho, by rw [if_pos e]⟩, h⟩)
  · have e : ¬ sN S 8 k = 0 := fun z => c_10 (by rw [z]; rfl)
    refine kj_bipush (v := 100) X dX1_waits_13 (by decide) ?_
    refine kj_goto X 22 dX1_waits_15 (by decide) ?_
    exact kj_iret X dX1_waits_22 (by omega) (by omega) (fun H h => ⟨k, ⟨rfl, hk, ho, by rw [if_neg e]⟩, h⟩)
/-- plays -/
theorem ct_X1_plays (hF : kr_F G l) (i : Int32) (hn : sN S 1 0 ≤ 6) (hok : ∀ k, sN S 3 k = 1 → sN S 15 k = 1) (hat : ∀ k, sN S 15 k = 1 → sN S 4 k ≤ sN S 1 0) : kr_T G l yX1_plays (ws_ yX1_plays cX1_plays 3 (Option.some Jvm.ClassFile.FieldType.int)) 9 600 [.ref (gA g (0, 0)), .int i] (kr_S G (gA g) (kr_cells G g S Z)) 2 12 (fun v H => ∃ k, (i = nI k ∧ k < sN S 1 0 ∧ sN S 3 k = 1 ∧ v = some (.int (nI (sN S 4 k) - 1))) ∧ kr_S G (gA g) (kr_cells G g S Z) H) (fun E H => kx_P S i E ∧ kr_S G (gA g) (kr_cells G g S Z) H) := by
  refine kr_T.of (by decide +kernel) hF (by simp [Value.category]) (Nat.le_of_ble_eq_true rfl) (fun x hx X => ?_)
  refine kj_aload_n X dX1_plays_0 rfl rfl (by first | exact ⟨some _, rfl⟩ | exact ⟨none, rfl⟩ | exact ⟨_, rfl⟩) ?_
  refine kj_iload_n X dX1_plays_1 rfl rfl ?_
  refine kj_callV X 1 (ct_X1_playerOf X.F i hn) (lw_V q1189 q1191 qs13 q43 q1192) ⟨rfl, by decide, by decide, by decide +kernel⟩ dX1_plays_2 rfl rfl (by first | exact Nat.le_of_ble_eq_true rfl | simp [kr_cat, Value.category]) ⟨Nat.le_of_ble_eq_true rfl, Nat.le_of_ble_eq_true rfl⟩ ⟨by dsimp only; omega, by dsimp only; omega⟩ kc_X1.1 (fun H h => h.rc (kc_kio)) (fun E => kjx_out X (by omega) (by omega) (fun H h => h)) (fun v_2 => ?_)
  refine kj_open (fun k hk => ?_)
  obtain ⟨rfl, hk, ho, rfl⟩ := hk
  have hp := hok k ho
  have hle := hat k hp
  have k7 : ∀ n, sN S 4 k = n → kr_cells G g S Z (7, k) = kr_o 5 [.int (nI k), .ref (gA g (8, k)), va_rf (kr_op (fun i => gA g (5, i)) n), .int (sI S 1 k), .int (sI S 2 k), .int (nI (sN S 8 k))] := fun n e => by rw [kc_7 hp, e]
  cases e : sN S 4 k with
  | zero =>
    refine kj_astore_n (lv' := [_, _, _]) X dX1_plays_5 rfl (by decide) (by intro w h _; cases h <;> first | rfl | exact kr_cat _) (by first | exact ⟨some _, rfl⟩ | exact ⟨none, rfl⟩ | exact ⟨_, rfl⟩) rfl ?_
    refine kj_aload_n X dX1_plays_6 rfl rfl (by first | exact ⟨some _, rfl⟩ | exact ⟨none, rfl⟩ | exact ⟨_, rfl⟩) ?_
    refine kj_getN X kc_X16 2 (by decide) q1143 rfl dX1_plays_7 (fun H h => h.own (k7 0 e)) rfl ?_
    refine kj_ifnonnull X (by first | exact Eq.refl (va_rf (some _)) | exact Eq.refl (va_rf none) | exact Eq.refl (va_rf _)) 17 dX1_plays_10 (by decide) (fun a_10 c_10 => ?_) (fun c_10 => ?_)
    · cases c_10
    refine kj_iconst (v := -1) X dX1_plays_13 (by decide) ?_
    refine kj_goto X 24 dX1_plays_14 (by decide) ?_
    exact kj_iret X dX1_plays_24 (by omega) (by omega) (fun H h => ⟨k, ⟨rfl, hk, ho, by rw [e]; rfl⟩, h⟩)
  | succ j =>
    refine kj_astore_n (lv' := [_, _, _]) X dX1_plays_5 rfl (by decide) (by intro w h _; cases h <;> first | rfl | exact kr_cat _) (by first | exact ⟨some _, rfl⟩ | exact ⟨none, rfl⟩ | exact ⟨_, rfl⟩) rfl ?_
    refine kj_aload_n X dX1_plays_6 rfl rfl (by first | exact ⟨some _, rfl⟩ | exact ⟨none, rfl⟩ | exact ⟨_, rfl⟩) ?_
    refine kj_getN X kc_X16 2 (by decide) q1143 rfl dX1_plays_7 (fun H h => h.own (k7 (j + 1) e)) rfl ?_
    refine kj_ifnonnull X (by first | exact Eq.refl (va_rf (some _)) | exact Eq.refl (va_rf none) | exact Eq.refl (va_rf _)) 17 dX1_plays_10 (by decide) (fun a_10 c_10 => ?_) (fun c_10 => ?_)
    · refine kj_aload_n X dX1_plays_17 rfl rfl (by first | exact ⟨some _, rfl⟩ | exact ⟨none, rfl⟩ | exact ⟨_, rfl⟩) ?_
      refine kj_getN X kc_X16 2 (by decide) q1143 rfl dX1_plays_18 (fun H h => h.own (k7 (j + 1) e)) rfl ?_
      refine kj_getN X kc_X15 0 (by decide) q1067 rfl dX1_plays_21 (fun H h => h.own (kc_5 (by omega))) rfl ?_
      exact kj_iret X dX1_plays_24 (by omega) (by omega) (fun H h => ⟨k, ⟨rfl, hk, ho, by rw [e, kr_dec (by omega)]; rfl⟩, h⟩)
    · cases c_10
/-- done -/
theorem ct_X1_done (hF : kr_F G l) : kr_T G l yX1_done (ws_ yX1_done cX1_done 1 (Option.some Jvm.ClassFile.FieldType.long)) 1 20 [.ref (gA g (0, 0))] (kr_S G (gA g) (kr_cells G g S Z)) 0 0 (fun v H => v = some (.long (sD S)) ∧ kr_S G (gA g) (kr_cells G g S Z) H) kr_no := by
  refine kr_T.of (by decide +kernel) hF (by simp [Value.category]) (Nat.le_of_ble_eq_true rfl) (fun x hx X => ?_)
  refine kj_aload_n X dX1_done_0 rfl rfl (by first | exact ⟨some _, rfl⟩ | exact ⟨none, rfl⟩ | exact ⟨_, rfl⟩) ?_
  refine kj_get X kc_X1 5 (by decide) q233 (Or.inl rfl) dX1_done_1 (fun H h => h.own (kc_kio)) rfl ?_
  exact kj_lret X dX1_done_4 (by omega) (by omega) (fun H h => ⟨rfl, h⟩)
end
