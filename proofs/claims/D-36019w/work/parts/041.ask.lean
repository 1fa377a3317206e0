/-! QUESTIONS 2 -/
set_option maxRecDepth 100000
theorem kr_in {j : Int32} {n : Nat} (hn : n < 2 ^ 31) : (0 ≤ j ∧ j ≤ nI n - 1) ↔ ∃ m, j = nI m ∧ m < n := by
  constructor
  · rintro ⟨h1, h2⟩
    obtain ⟨m, hm, rfl⟩ := nI_of (Int32.not_lt.mpr h1)
    refine ⟨m, rfl, ?_⟩
    cases n with
    | zero => exact absurd (Int32.le_trans h1 h2) (by decide)
    | succ n =>
      rw [kr_dec (by omega)] at h2
      have := (nI_leI hm (by omega)).mp h2
      omega
  · rintro ⟨m, rfl, hm⟩
    rw [kr_dec (by omega)]
    exact ⟨nI_pos' (by omega), (nI_leI (by omega) (by omega)).mpr (by omega)⟩
theorem kr_in99 {j : Int32} : (0 ≤ j ∧ j ≤ 99) ↔ ∃ m, j = nI m ∧ m < 100 := kr_in (n := 100) (by decide)
section
variable {G : kr_G} {l : Launch} {g g' : kr_Gh} {S S' : kr_St} {Z : kr_Ro → Option kr_AE}
/-- state -/
theorem ct_X1_state (hF : kr_F G l) (i : Int32) (hn : sN S 1 0 ≤ 6) (hb : ∀ k, k < sN S 1 0 → sN S 6 k < 2 ∧ sN S 7 k < 2) : kr_T G l yX1_state (ws_ yX1_state cX1_state 3 (Option.some Jvm.ClassFile.FieldType.char)) 8 500 [.ref (gA g (0, 0)), .int i] (kr_S G (gA g) (kr_cells G g S Z)) 1 6 (fun v H => ∃ k, (i = nI k ∧ k < sN S 1 0 ∧ v = some (.int (if sN S 7 k = 0 then (if sN S 6 k = 0 then 112 else 102) else 111))) ∧ kr_S G (gA g) (kr_cells G g S Z) H) (fun E H => (¬ (0 ≤ i ∧ i < nI (sN S 1 0)) ∧ E = kE_I) ∧ kr_S G (gA g) (kr_cells G g S Z) H) := by
  refine kr_T.of (by decide +kernel) hF (by simp [Value.category]) (Nat.le_of_ble_eq_true rfl) (fun x hx X => ?_)
  refine kj_aload_n X dX1_state_0 rfl rfl (by first | exact ⟨some _, rfl⟩ | exact ⟨none, rfl⟩ | exact ⟨_, rfl⟩) ?_
  refine kj_iload_n X dX1_state_1 rfl rfl ?_
  refine kj_callV X 1 (ct_X1_kioskAt X.F i hn) (lw_V q1099 q1101 qs10 q43 q1102) ⟨rfl, by decide, by decide, by decide +kernel⟩ dX1_state_2 rfl rfl (by first | exact Nat.le_of_ble_eq_true rfl | simp [kr_cat, Value.category]) ⟨Nat.le_of_ble_eq_true rfl, Nat.le_of_ble_eq_true rfl⟩ ⟨by dsimp only; omega, by dsimp only; omega⟩ kc_X1.1 (fun H h => h.rc (kc_kio)) (fun E => kjx_out X (by omega) (by omega) (fun H h => h)) (fun v_2 => ?_)
  refine kj_open (fun k hk => ?_)
  obtain ⟨rfl, hk, rfl⟩ := hk
  obtain ⟨h6, h7⟩ := hb k hk
  refine kj_astore_n (lv' := [_, _, _]) X dX1_state_5 rfl (by decide) (by intro w h _; cases h <;> first | rfl | exact kr_cat _) (by first | exact ⟨some _, rfl⟩ | exact ⟨none, rfl⟩ | exact ⟨_, rfl⟩) rfl ?_
  refine kj_aload_n X dX1_state_6 rfl rfl (by first | exact ⟨some _, rfl⟩ | exact ⟨none, rfl⟩ | exact ⟨_, rfl⟩) ?_
  refine kj_getN X kc_X15 4 (by decide) q1073 rfl dX1_state_7 (fun H h => h.own (kc_5 hk)) rfl ?_
  refine kj_if_eq X 18 dX1_state_10 (by decide) (fun c_10 => ?_) (fun c_10 => ?_)
  · have e : sN S 7 k = 0 := (nI_eq (b := 0) (by omega) (by omega)).mp c_10
    refine kj_aload_n X dX1_state_18 rfl rfl (by first | exact ⟨some _, rfl⟩ | exact ⟨none, rfl⟩ | exact ⟨_, rfl⟩) ?_
    refine kj_getN X kc_X15 3 (by decide) q1072 rfl dX1_state_19 (fun H h => h.own (kc_5 hk)) rfl ?_
    refine kj_if_eq X 30 dX1_state_22 (by decide) (fun c_22 => ?_) (fun c_22 => ?_)
    · have e2 : sN S 6 k = 0 := (nI_eq (b := 0) (by omega) (by omega)).mp c_22
      refine kj_bipush (v := 112) X dX1_state_30 (by decide) ?_
      exact kj_zret X rfl dX1_state_32 (by omega) (by omega) (fun H h => ⟨k, ⟨rfl, hk, by rw [if_pos e, if_pos e2]⟩, h⟩)
    · have e2 : ¬ sN S 6 k = 0 := fun z => c_22 (by rw [z]; rfl)
      refine kj_bipush (v := 102) X dX1_state_25 (by decide) ?_
      refine kj_goto X 32 dX1_state_27 (by decide) ?_
      exact kj_zret X rfl dX1_state_32 (by omega) (by omega) (fun H h => ⟨k, ⟨rfl, hk, by rw [if_pos e, if_neg e2]⟩, h⟩)
  · have e : ¬ sN S 7 k = 0 := fun z => c_10 (by rw [z]; rfl)
    refine kj_bipush (v := 111) X dX1_state_13 (by decide) ?_
    refine kj_goto X 32 dX1_state_15 (by decide) ?_
    exact kj_zret X rfl dX1_state_32 (by omega) (by omega) (fun H h => ⟨k, ⟨rfl, hk, by rw [if_neg e]⟩, h⟩)
/-- next -/
theorem ct_X1_next (hF : kr_F G l) (i : Int32) (hn : sN S 1 0 ≤ 6) (hok : ∀ k, sN S 3 k = 1 → sN S 15 k = 1 ∧ 0 < sN S 5 k ∧ sN S 5 k ≤ 4) : kr_T G l yX1_next (ws_ yX1_next cX1_next 3 (Option.some Jvm.ClassFile.FieldType.int)) 9 600 [.ref (gA g (0, 0)), .int i] (kr_S G (gA g) (kr_cells G g S Z)) 2 12 (fun v H => ∃ k, (i = nI k ∧ k < sN S 1 0 ∧ sN S 3 k = 1 ∧ v = some (.int (100 * nI (sN S 5 k) + sI S 5 (kt_top S k)))) ∧ kr_S G (gA g) (kr_cells G g S Z) H) (fun E H => kx_P S i E ∧ kr_S G (gA g) (kr_cells G g S Z) H) := by
  refine kr_T.of (by decide +kernel) hF (by simp [Value.category]) (Nat.le_of_ble_eq_true rfl) (fun x hx X => ?_)
  refine kj_aload_n X dX1_next_0 rfl rfl (by first | exact ⟨some _, rfl⟩ | exact ⟨none, rfl⟩ | exact ⟨_, rfl⟩) ?_
  refine kj_iload_n X dX1_next_1 rfl rfl ?_
  refine kj_callV X 1 (ct_X1_playerOf X.F i hn) (lw_V q1189 q1191 qs13 q43 q1192) ⟨rfl, by decide, by decide, by decide +kernel⟩ dX1_next_2 rfl rfl (by first | exact Nat.le_of_ble_eq_true rfl | simp [kr_cat, Value.category]) ⟨Nat.le_of_ble_eq_true rfl, Nat.le_of_ble_eq_true rfl⟩ ⟨by dsimp only; omega, by dsimp only; omega⟩ kc_X1.1 (fun H h => h.rc (kc_kio)) (fun E => kjx_out X (by omega) (by omega) (fun H h => h)) (fun v_2 => ?_)
  refine kj_open (fun k hk => ?_)
  obtain ⟨rfl, hk, ho, rfl⟩ := hk
  obtain ⟨hp, h1, h4⟩ := hok k ho
  refine kj_astore_n (lv' := [_, _, _]) X dX1_next_5 rfl (by decide) (by intro w h _; cases h <;> first | rfl | exact kr_cat _) (by first | exact ⟨some _, rfl⟩ | exact ⟨none, rfl⟩ | exact ⟨_, rfl⟩) rfl ?_
  refine kj_bipush (v := 100) X dX1_next_6 (by decide) ?_
  refine kj_aload_n X dX1_next_8 rfl rfl (by first | exact ⟨some _, rfl⟩ | exact ⟨none, rfl⟩ | exact ⟨_, rfl⟩) ?_
  refine kj_getN X kc_X16 1 (by decide) q1141 rfl dX1_next_9 (fun H h => h.own (kc_7 hp)) rfl ?_
  refine kj_callF X 0 (ct_J2_size X.F (kc_8 hp)) q478 q481 q483 q46 q485 q480 q479 q484 q482 q148 ⟨by decide, by decide, by decide +kernel⟩ dX1_next_12 rfl rfl (by first | exact Nat.le_of_ble_eq_true rfl | simp [kr_cat, Value.category]) ⟨Nat.le_of_ble_eq_true rfl, Nat.le_of_ble_eq_true rfl⟩ ⟨by dsimp only; omega, by dsimp only; omega⟩ kc_J2.1 (fun H h => h.list (kc_8 hp)) (fun E => kjx_no) (fun v_12 => ?_)
  refine kj_and (fun e_12 => ?_)
  subst e_12
  rw [List.length_map, List.length_range]
  refine kj_imul X dX1_next_17 ?_
  refine kj_aload_n X dX1_next_18 rfl rfl (by first | exact ⟨some _, rfl⟩ | exact ⟨none, rfl⟩ | exact ⟨_, rfl⟩) ?_
  refine kj_callV X 0 (ct_X16_top X.F hp h1 h4) (lw_V q1271 q1272 q1273 q84 q1274) ⟨rfl, by decide, by decide, by decide +kernel⟩ dX1_next_19 rfl rfl (by first | exact Nat.le_of_ble_eq_true rfl | simp [kr_cat, Value.category]) ⟨Nat.le_of_ble_eq_true rfl, Nat.le_of_ble_eq_true rfl⟩ ⟨by dsimp only; omega, by dsimp only; omega⟩ kc_X16.1 (fun H h => h.rc (kc_7 hp)) (fun E => kjx_no) (fun v_19 => ?_)
  refine kj_and (fun e_19 => ?_)
  subst e_19
  refine kj_getN X kc_X17 2 (by decide) q1127 rfl dX1_next_22 (fun H h => h.own (kc_9 (d := sN S 5 k - 1) hp (by omega) (by omega))) rfl ?_
  refine kj_iadd X dX1_next_25 ?_
  exact kj_iret X dX1_next_26 (by omega) (by omega) (fun H h => ⟨k, ⟨rfl, hk, ho, rfl⟩, h⟩)
/-- slide -/
theorem ct_X1_slide (hF : kr_F G l) (i : Int32) (hn : sN S 1 0 ≤ 6) : kr_T G l yX1_slide (ws_ yX1_slide cX1_slide 3 (Option.some Jvm.ClassFile.FieldType.int)) 8 500 [.ref (gA g (0, 0)), .int i] (kr_S G (gA g) (kr_cells G g S Z)) 2 12 (fun v H => ∃ k, (i = nI k ∧ k < sN S 1 0 ∧ sI S 4 k ≠ -1 ∧ v = some (.int (sI S 4 k))) ∧ kr_S G (gA g) (kr_cells G g S Z) H) (fun E H => ((¬ (0 ≤ i ∧ i < nI (sN S 1 0)) ∧ E = kE_I) ∨ ∃ k, i = nI k ∧ k < sN S 1 0 ∧ sI S 4 k = -1 ∧ E = kE_N) ∧ kr_S G (gA g) (kr_cells G g S Z) H) := by
  refine kr_T.of (by decide +kernel) hF (by simp [Value.category]) (Nat.le_of_ble_eq_true rfl) (fun x hx X => ?_)
  refine kj_aload_n X dX1_slide_0 rfl rfl (by first | exact ⟨some _, rfl⟩ | exact ⟨none, rfl⟩ | exact ⟨_, rfl⟩) ?_
  refine kj_iload_n X dX1_slide_1 rfl rfl ?_
  refine kj_callV X 1 (ct_X1_kioskAt X.F i hn) (lw_V q1099 q1101 qs10 q43 q1102) ⟨rfl, by decide, by decide, by decide +kernel⟩ dX1_slide_2 rfl rfl (by first | exact Nat.le_of_ble_eq_true rfl | simp [kr_cat, Value.category]) ⟨Nat.le_of_ble_eq_true rfl, Nat.le_of_ble_eq_true rfl⟩ ⟨by dsimp only; omega, by dsimp only; omega⟩ kc_X1.1 (fun H h => h.rc (kc_kio)) (fun E => kjx_out X (by omega) (by omega) (fun H h => ⟨Or.inl h.1, h.2⟩)) (fun v_2 => ?_)
  refine kj_open (fun k hk => ?_)
  obtain ⟨rfl, hk, rfl⟩ := hk
  refine kj_astore_n (lv' := [_, _, _]) X dX1_slide_5 rfl (by decide) (by intro w h _; cases h <;> first | rfl | exact kr_cat _) (by first | exact ⟨some _, rfl⟩ | exact ⟨none, rfl⟩ | exact ⟨_, rfl⟩) rfl ?_
  refine kj_aload_n X dX1_slide_6 rfl rfl (by first | exact ⟨some _, rfl⟩ | exact ⟨none, rfl⟩ | exact ⟨_, rfl⟩) ?_
  refine kj_getN X kc_X15 6 (by decide) q1076 rfl dX1_slide_7 (fun H h => h.own (kc_5 hk)) rfl ?_
  refine kj_iconst (v := -1) X dX1_slide_10 (by decide) ?_
  refine kj_icmp_eq X 18 dX1_slide_11 (by decide) (fun c_11 => ?_) (fun c_11 => ?_)
  · refine kj_iconst (v := 0) X dX1_slide_18 (by decide) ?_
    refine kj_callS X 1 (ct_X1_requireElement X.F false (kr_S G (gA g) (kr_cells G g S Z)) kr_S.mono) (lw_S q1193 q1194 q43 q1195) ⟨by decide, by decide, by decide +kernel⟩ dX1_slide_19 rfl rfl (by first | exact Nat.le_of_ble_eq_true rfl | simp [kr_cat, Value.category]) ⟨Nat.le_of_ble_eq_true rfl, Nat.le_of_ble_eq_true rfl⟩ ⟨by dsimp only; omega, by dsimp only; omega⟩ (fun E => kjx_out X (by omega) (by omega) (fun H h => ⟨Or.inr ⟨k, rfl, hk, c_11, h.2.1⟩, h.2.2⟩)) (fun v_19 => ?_)
    refine kj_and (fun z => ?_)
    cases z
  · refine kj_iconst (v := 1) X dX1_slide_14 (by decide) ?_
    refine kj_goto X 19 dX1_slide_15 (by decide) ?_
    refine kj_callS X 1 (ct_X1_requireElement X.F true (kr_S G (gA g) (kr_cells G g S Z)) kr_S.mono) (lw_S q1193 q1194 q43 q1195) ⟨by decide, by decide, by decide +kernel⟩ dX1_slide_19 rfl rfl (by first | exact Nat.le_of_ble_eq_true rfl | simp [kr_cat, Value.category]) ⟨Nat.le_of_ble_eq_true rfl, Nat.le_of_ble_eq_true rfl⟩ ⟨by dsimp only; omega, by dsimp only; omega⟩ (fun E => kjx_pure (fun H h => h.1) (fun z => by cases z)) (fun v_19 => ?_)
    refine kj_and (fun _ => ?_)
    refine kj_and (fun e => ?_)
    subst e
    refine kj_aload_n X dX1_slide_22 rfl rfl (by first | exact ⟨some _, rfl⟩ | exact ⟨none, rfl⟩ | exact ⟨_, rfl⟩) ?_
    refine kj_getN X kc_X15 6 (by decide) q1076 rfl dX1_slide_23 (fun H h => h.own (kc_5 hk)) rfl ?_
    exact kj_iret X dX1_slide_26 (by omega) (by omega) (fun H h => ⟨k, ⟨rfl, hk, c_11, rfl⟩, h⟩)
/-- holder -/
theorem ct_X1_holder (hF : kr_F G l) (i : Int32) (hD : sN S 14 0 = 6) (hho : ∀ d, d < 6 → ∀ j, sN S 9 d = j + 1 → sN S 15 j = 1) : kr_T G l yX1_holder (ws_ yX1_holder cX1_holder 3 (Option.some Jvm.ClassFile.FieldType.int)) 8 500 [.ref (gA g (0, 0)), .int i] (kr_S G (gA g) (kr_cells G g S Z)) 2 12 (fun v H => ∃ k, (i = nI k ∧ k < 6 ∧ sN S 9 k ≠ 0 ∧ v = some (.int (nI (sN S 9 k - 1)))) ∧ kr_S G (gA g) (kr_cells G g S Z) H) (fun E H => ((¬ (0 ≤ i ∧ i < 6) ∧ E = kE_I) ∨ ∃ k, i = nI k ∧ k < 6 ∧ sN S 9 k = 0 ∧ E = kE_N) ∧ kr_S G (gA g) (kr_cells G g S Z) H) := by
  refine kr_T.of (by decide +kernel) hF (by simp [Value.category]) (Nat.le_of_ble_eq_true rfl) (fun x hx X => ?_)
  refine kj_aload_n X dX1_holder_0 rfl rfl (by first | exact ⟨some _, rfl⟩ | exact ⟨none, rfl⟩ | exact ⟨_, rfl⟩) ?_
  refine kj_iload_n X dX1_holder_1 rfl rfl ?_
  refine kj_callV X 1 (ct_X1_deviceAt X.F i hD) (lw_V q1452 q1454 qs20 q43 q1455) ⟨rfl, by decide, by decide, by decide +kernel⟩ dX1_holder_2 rfl rfl (by first | exact Nat.le_of_ble_eq_true rfl | simp [kr_cat, Value.category]) ⟨Nat.le_of_ble_eq_true rfl, Nat.le_of_ble_eq_true rfl⟩ ⟨by dsimp only; omega, by dsimp only; omega⟩ kc_X1.1 (fun H h => h.rc (kc_kio)) (fun E => kjx_out X (by omega) (by omega) (fun H h => ⟨Or.inl h.1, h.2⟩)) (fun v_2 => ?_)
  refine kj_open (fun k hk => ?_)
  obtain ⟨rfl, hk, rfl⟩ := hk
  have hk6 : k < sN S 14 0 := by omega
  have k11 : ∀ n, sN S 9 k = n → kr_cells G g S Z (11, k) = kr_o 2 [.ref (gA g (12, k)), va_rf (kr_op (fun i => gA g (7, i)) n)] := fun n e => by rw [kc_11 hk6, e]
  cases e : sN S 9 k with
  | zero =>
    refine kj_astore_n (lv' := [_, _, _]) X dX1_holder_5 rfl (by decide) (by intro w h _; cases h <;> first | rfl | exact kr_cat _) (by first | exact ⟨some _, rfl⟩ | exact ⟨none, rfl⟩ | exact ⟨_, rfl⟩) rfl ?_
    refine kj_aload_n X dX1_holder_6 rfl rfl (by first | exact ⟨some _, rfl⟩ | exact ⟨none, rfl⟩ | exact ⟨_, rfl⟩) ?_
    refine kj_getN X kc_X2 1 (by decide) q138 rfl dX1_holder_7 (fun H h => h.own (k11 0 e)) rfl ?_
    refine kj_ifnull X (by first | exact Eq.refl (va_rf (some _)) | exact Eq.refl (va_rf none) | exact Eq.refl (va_rf _)) 17 dX1_holder_10 (by decide) (fun c_10 => ?_) (fun a_10 c_10 => ?_)
    · refine kj_iconst (v := 0) X dX1_holder_17 (by decide) ?_
      refine kj_callS X 1 (ct_X1_requireElement X.F false (kr_S G (gA g) (kr_cells G g S Z)) kr_S.mono) (lw_S q1193 q1194 q43 q1195) ⟨by decide, by decide, by decide +kernel⟩ dX1_holder_18 rfl rfl (by first | exact Nat.le_of_ble_eq_true rfl | simp [kr_cat, Value.category]) ⟨Nat.le_of_ble_eq_true rfl, Nat.le_of_ble_eq_true rfl⟩ ⟨by dsimp only; omega, by dsimp only; omega⟩ (fun E => kjx_out X (by omega) (by omega) (fun H h => ⟨Or.inr ⟨k, rfl, hk, e, h.2.1⟩, h.2.2⟩)) (fun v_18 => ?_)
      refine kj_and (fun z => ?_)
      cases z
    · cases c_10
  | succ j =>
    refine kj_astore_n (lv' := [_, _, _]) X dX1_holder_5 rfl (by decide) (by intro w h _; cases h <;> first | rfl | exact kr_cat _) (by first | exact ⟨some _, rfl⟩ | exact ⟨none, rfl⟩ | exact ⟨_, rfl⟩) rfl ?_
    refine kj_aload_n X dX1_holder_6 rfl rfl (by first | exact ⟨some _, rfl⟩ | exact ⟨none, rfl⟩ | exact ⟨_, rfl⟩) ?_
    refine kj_getN X kc_X2 1 (by decide) q138 rfl dX1_holder_7 (fun H h => h.own (k11 (j + 1) e)) rfl ?_
    refine kj_ifnull X (by first | exact Eq.refl (va_rf (some _)) | exact Eq.refl (va_rf none) | exact Eq.refl (va_rf _)) 17 dX1_holder_10 (by decide) (fun c_10 => ?_) (fun a_10 c_10 => ?_)
    · cases c_10
    · refine kj_iconst (v := 1) X dX1_holder_13 (by decide) ?_
      refine kj_goto X 18 dX1_holder_14 (by decide) ?_
      refine kj_callS X 1 (ct_X1_requireElement X.F true (kr_S G (gA g) (kr_cells G g S Z)) kr_S.mono) (lw_S q1193 q1194 q43 q1195) ⟨by decide, by decide, by decide +kernel⟩ dX1_holder_18 rfl rfl (by first | exact Nat.le_of_ble_eq_true rfl | simp [kr_cat, Value.category]) ⟨Nat.le_of_ble_eq_true rfl, Nat.le_of_ble_eq_true rfl⟩ ⟨by dsimp only; omega, by dsimp only; omega⟩ (fun E => kjx_pure (fun H h => h.1) (fun z => by cases z)) (fun v_18 => ?_)
      refine kj_and (fun _ => ?_)
      refine kj_and (fun e => ?_)
      subst e
      refine kj_aload_n X dX1_holder_21 rfl rfl (by first | exact ⟨some _, rfl⟩ | exact ⟨none, rfl⟩ | exact ⟨_, rfl⟩) ?_
      refine kj_getN X kc_X2 1 (by decide) q138 rfl dX1_holder_22 (fun H h => h.own (k11 (j + 1) e)) rfl ?_
      refine kj_getN X kc_X16 0 (by decide) q1138 rfl dX1_holder_25 (fun H h => h.own (kc_7 (hho k hk j e))) rfl ?_
      exact kj_iret X dX1_holder_28 (by omega) (by omega) (fun H h => ⟨k, ⟨rfl, hk, by omega, by rw [e]; rfl⟩, h⟩)
/-- saw -/
theorem ct_X1_saw (hF : kr_F G l) (i j : Int32) (hn : sN S 2 0 ≤ 10) : kr_T G l yX1_saw (ws_ yX1_saw cX1_saw 4 (Option.some Jvm.ClassFile.FieldType.int)) 8 500 [.ref (gA g (0, 0)), .int i, .int j] (kr_S G (gA g) (kr_cells G g S Z)) 2 12 (fun v H => ∃ a : Nat × Nat, (i = nI a.1 ∧ a.1 < sN S 2 0 ∧ j = nI a.2 ∧ a.2 < 100 ∧ v = some (.int (sI S (2 * a.1 + 100) a.2))) ∧ kr_S G (gA g) (kr_cells G g S Z) H) (fun E H => ((¬ (0 ≤ i ∧ i < nI (sN S 2 0)) ∧ E = kE_I) ∨ ((0 ≤ i ∧ i < nI (sN S 2 0)) ∧ ¬ (0 ≤ j ∧ j ≤ 99) ∧ E = kE_A)) ∧ kr_S G (gA g) (kr_cells G g S Z) H) := by
  refine kr_T.of (by decide +kernel) hF (by simp [Value.category]) (Nat.le_of_ble_eq_true rfl) (fun x hx X => ?_)
  refine kj_aload_n X dX1_saw_0 rfl rfl (by first | exact ⟨some _, rfl⟩ | exact ⟨none, rfl⟩ | exact ⟨_, rfl⟩) ?_
  refine kj_iload_n X dX1_saw_1 rfl rfl ?_
  refine kj_callV X 1 (ct_X1_visitorAt X.F i hn) (lw_V q1501 q1503 qs21 q43 q1504) ⟨rfl, by decide, by decide, by decide +kernel⟩ dX1_saw_2 rfl rfl (by first | exact Nat.le_of_ble_eq_true rfl | simp [kr_cat, Value.category]) ⟨Nat.le_of_ble_eq_true rfl, Nat.le_of_ble_eq_true rfl⟩ ⟨by dsimp only; omega, by dsimp only; omega⟩ kc_X1.1 (fun H h => h.rc (kc_kio)) (fun E => kjx_out X (by omega) (by omega) (fun H h => ⟨Or.inl h.1, h.2⟩)) (fun v_2 => ?_)
  refine kj_open (fun k hk => ?_)
  obtain ⟨rfl, hk, rfl⟩ := hk
  have hir : 0 ≤ nI k ∧ nI k < nI (sN S 2 0) := ⟨nI_pos' (by omega), nI_lt hk (by omega)⟩
  refine kj_astore_n (lv' := [_, _, _, _]) X dX1_saw_5 rfl (by decide) (by intro w h _; cases h <;> first | rfl | exact kr_cat _) (by first | exact ⟨some _, rfl⟩ | exact ⟨none, rfl⟩ | exact ⟨_, rfl⟩) rfl ?_
  refine kj_iload_n X dX1_saw_6 rfl rfl ?_
  refine kj_iconst (v := 0) X dX1_saw_7 (by decide) ?_
  refine kj_bipush (v := 99) X dX1_saw_8 (by decide) ?_
  refine kj_callS X 3 (ct_X1_isIn X.F j 0 99) (lw_S q608 q609 q43 q610) ⟨by decide, by decide, by decide +kernel⟩ dX1_saw_10 rfl rfl (by first | exact Nat.le_of_ble_eq_true rfl | simp [kr_cat, Value.category]) ⟨Nat.le_of_ble_eq_true rfl, Nat.le_of_ble_eq_true rfl⟩ ⟨by dsimp only; omega, by dsimp only; omega⟩ (fun E => kjx_no) (fun v_10 => ?_)
  refine kj_and (fun e_10 => ?_)
  subst e_10
  refine kj_callS X 1 (ct_X1_requireValid X.F (decide (0 ≤ j ∧ j ≤ 99)) (kr_S G (gA g) (kr_cells G g S Z)) kr_S.mono) (lw_S q697 q698 q43 q699) ⟨by decide, by decide, by decide +kernel⟩ dX1_saw_13 rfl rfl (by first | exact Nat.le_of_ble_eq_true rfl | simp [kr_cat, Value.category]) ⟨Nat.le_of_ble_eq_true rfl, Nat.le_of_ble_eq_true rfl⟩ ⟨by dsimp only; omega, by dsimp only; omega⟩ (fun E => kjx_out X (by omega) (by omega) (fun H h => ⟨Or.inr ⟨hir, of_decide_eq_false h.1, h.2.1⟩, h.2.2⟩)) (fun v_13 => ?_)
  refine kj_and (fun hd => ?_)
  refine kj_and (fun e => ?_)
  subst e
  obtain ⟨m, rfl, hm⟩ := kr_in99.mp (of_decide_eq_true hd)
  refine kj_aload_n X dX1_saw_16 rfl rfl (by first | exact ⟨some _, rfl⟩ | exact ⟨none, rfl⟩ | exact ⟨_, rfl⟩) ?_
  refine kj_getN X kc_X18 0 (by decide) q1476 rfl dX1_saw_17 (fun H h => h.own (kc_13 hk)) rfl ?_
  refine kj_iload_n X dX1_saw_20 rfl rfl ?_
  refine kj_iald X dX1_saw_21 (fun H h => h.own (kc_14 hk)) (vp_in_nI (N := 100) (by omega) (by omega)) ?_
  rw [nI_clamp (by omega : m < 2 ^ 31)]
  exact kj_iret X dX1_saw_22 (by omega) (by omega) (fun H h => ⟨(k, m), ⟨rfl, hk, rfl, hm, rfl⟩, h⟩)
/-- ask -/
def oAsk (S : kr_St) (v s : Nat) : kr_St := uI (uN S (v + 100) s 1) (2 * v + 101) s (sI S (2 * v + 101) s + 1)
theorem ct_X1_ask (hF : kr_F G l) (i j : Int32) (hn : sN S 2 0 ≤ 10) : kr_T G l yX1_ask (ws_ yX1_ask cX1_ask 4 (Option.some Jvm.ClassFile.FieldType.boolean)) 8 500 [.ref (gA g (0, 0)), .int i, .int j] (kr_S G (gA g) (kr_cells G g S Z)) 2 12 (fun v H => ∃ a : Nat × Nat, (i = nI a.1 ∧ a.1 < sN S 2 0 ∧ j = nI a.2 ∧ a.2 < 100 ∧ v = some (.int (kr_b (decide (0 < sI S (2 * a.1 + 100) a.2))))) ∧ kr_S G (gA g) (kr_cells G g (oAsk S a.1 a.2) Z) H) (fun E H => ((¬ (0 ≤ i ∧ i < nI (sN S 2 0)) ∧ E = kE_I) ∨ ((0 ≤ i ∧ i < nI (sN S 2 0)) ∧ ¬ (0 ≤ j ∧ j ≤ 99) ∧ E = kE_A)) ∧ kr_S G (gA g) (kr_cells G g S Z) H) := by
  refine kr_T.of (by decide +kernel) hF (by simp [Value.category]) (Nat.le_of_ble_eq_true rfl) (fun x hx X => ?_)
  refine kj_aload_n X dX1_ask_0 rfl rfl (by first | exact ⟨some _, rfl⟩ | exact ⟨none, rfl⟩ | exact ⟨_, rfl⟩) ?_
  refine kj_iload_n X dX1_ask_1 rfl rfl ?_
  refine kj_callV X 1 (ct_X1_visitorAt X.F i hn) (lw_V q1501 q1503 qs21 q43 q1504) ⟨rfl, by decide, by decide, by decide +kernel⟩ dX1_ask_2 rfl rfl (by first | exact Nat.le_of_ble_eq_true rfl | simp [kr_cat, Value.category]) ⟨Nat.le_of_ble_eq_true rfl, Nat.le_of_ble_eq_true rfl⟩ ⟨by dsimp only; omega, by dsimp only; omega⟩ kc_X1.1 (fun H h => h.rc (kc_kio)) (fun E => kjx_out X (by omega) (by omega) (fun H h => ⟨Or.inl h.1, h.2⟩)) (fun v_2 => ?_)
  refine kj_open (fun k hk => ?_)
  obtain ⟨rfl, hk, rfl⟩ := hk
  have hir : 0 ≤ nI k ∧ nI k < nI (sN S 2 0) := ⟨nI_pos' (by omega), nI_lt hk (by omega)⟩
  refine kj_astore_n (lv' := [_, _, _, _]) X dX1_ask_5 rfl (by decide) (by intro w h _; cases h <;> first | rfl | exact kr_cat _) (by first | exact ⟨some _, rfl⟩ | exact ⟨none, rfl⟩ | exact ⟨_, rfl⟩) rfl ?_
  refine kj_iload_n X dX1_ask_6 rfl rfl ?_
  refine kj_iconst (v := 0) X dX1_ask_7 (by decide) ?_
  refine kj_bipush (v := 99) X dX1_ask_8 (by decide) ?_
  refine kj_callS X 3 (ct_X1_isIn X.F j 0 99) (lw_S q608 q609 q43 q610) ⟨by decide, by decide, by decide +kernel⟩ dX1_ask_10 rfl rfl (by first | exact Nat.le_of_ble_eq_true rfl | simp [kr_cat, Value.category]) ⟨Nat.le_of_ble_eq_true rfl, Nat.le_of_ble_eq_true rfl⟩ ⟨by dsimp only; omega, by dsimp only; omega⟩ (fun E => kjx_no) (fun v_10 => ?_)
  refine kj_and (fun e_10 => ?_)
  subst e_10
  refine kj_callS X 1 (ct_X1_requireValid X.F (decide (0 ≤ j ∧ j ≤ 99)) (kr_S G (gA g) (kr_cells G g S Z)) kr_S.mono) (lw_S q697 q698 q43 q699) ⟨by decide, by decide, by decide +kernel⟩ dX1_ask_13 rfl rfl (by first | exact Nat.le_of_ble_eq_true rfl | simp [kr_cat, Value.category]) ⟨Nat.le_of_ble_eq_true rfl, Nat.le_of_ble_eq_true rfl⟩ ⟨by dsimp only; omega, by dsimp only; omega⟩ (fun E => kjx_out X (by omega) (by omega) (fun H h => ⟨Or.inr ⟨hir, of_decide_eq_false h.1, h.2.1⟩, h.2.2⟩)) (fun v_13 => ?_)
  refine kj_and (fun hd => ?_)
  refine kj_and (fun e => ?_)
  subst e
  obtain ⟨m, rfl, hm⟩ := kr_in99.mp (of_decide_eq_true hd)
  have hc : (nI m).toNatClampNeg = m := nI_clamp (by omega)
  have hk1 : k < sN (uN S (k + 100) m 1) 2 0 := by rw [sN_uN, if_neg (by omega)]; exact hk
  have hk2 : k < sN (oAsk S k m) 2 0 := hk1
  refine kj_aload_n X dX1_ask_16 rfl rfl (by first | exact ⟨some _, rfl⟩ | exact ⟨none, rfl⟩ | exact ⟨_, rfl⟩) ?_
  refine kj_getN X kc_X18 2 (by decide) q1480 rfl dX1_ask_17 (fun H h => h.own (kc_13 hk)) rfl ?_
  refine kj_iload_n X dX1_ask_20 rfl rfl ?_
  refine kj_iconst (v := 1) X dX1_ask_21 (by decide) ?_
  refine kj_zast X dX1_ask_22 (fun H h => h.own (kc_16 hk)) (vp_in_nI (N := 100) (by omega) (by omega)) (fun H H1 h a u => kr_S.upa h (kc_16 hk) (ku_asked (s := m) (v := 1) hk rfl) (by rw [hc] at a; exact a) u) ?_
  refine kj_aload_n X dX1_ask_23 rfl rfl (by first | exact ⟨some _, rfl⟩ | exact ⟨none, rfl⟩ | exact ⟨_, rfl⟩) ?_
  refine kj_getN X kc_X18 1 (by decide) q1478 rfl dX1_ask_24 (fun H h => h.own (kc_13 hk1)) rfl ?_
  refine kj_iload_n X dX1_ask_27 rfl rfl ?_
  refine kj_dup2 X dX1_ask_28 (by first | rfl | exact kr_cat _) (by first | rfl | exact kr_cat _) ?_
  refine kj_iald X dX1_ask_29 (fun H h => h.own (kc_15 hk1)) (vp_in_nI (N := 100) (by omega) (by omega)) ?_
  rw [hc]
  refine kj_iconst (v := 1) X dX1_ask_30 (by decide) ?_
  refine kj_iadd X dX1_ask_31 ?_
  refine kj_iast X dX1_ask_32 (fun H h => h.own (kc_15 hk1)) (vp_in_nI (N := 100) (by omega) (by omega)) (fun H H1 h a u => kr_S.upa h (kc_15 hk1) (ku_asks (s := m) (v := sI S (2 * k + 101) m + 1) hk1) (by rw [hc] at a; exact a) u) ?_
  refine kj_P (P' := kr_S G (gA g) (kr_cells G g (oAsk S k m) Z)) (fun H h => h) ?_
  refine kj_aload_n X dX1_ask_33 rfl rfl (by first | exact ⟨some _, rfl⟩ | exact ⟨none, rfl⟩ | exact ⟨_, rfl⟩) ?_
  refine kj_getN X kc_X18 0 (by decide) q1476 rfl dX1_ask_34 (fun H h => h.own (kc_13 hk2)) rfl ?_
  refine kj_iload_n X dX1_ask_37 rfl rfl ?_
  refine kj_iald X dX1_ask_38 (fun H h => h.own (kc_14 hk2)) (vp_in_nI (N := 100) (by omega) (by omega)) ?_
  rw [hc]
  have e2 : sI (oAsk S k m) (2 * k + 100) m = sI S (2 * k + 100) m := by
    unfold oAsk
    rw [sI_uI, if_neg (by omega), sI_uN]
  rw [e2]
  refine kj_if_le X 46 dX1_ask_39 (by decide) (fun c_39 => ?_) (fun c_39 => ?_)
  · refine kj_iconst (v := 0) X dX1_ask_46 (by decide) ?_
    exact kj_zret X rfl dX1_ask_47 (by omega) (by omega) (fun H h => ⟨(k, m), ⟨rfl, hk, rfl, hm, by rw [decide_eq_false (Int32.not_lt.mpr c_39)]; rfl⟩, h⟩)
  · refine kj_iconst (v := 1) X dX1_ask_42 (by decide) ?_
    refine kj_goto X 47 dX1_ask_43 (by decide) ?_
    exact kj_zret X rfl dX1_ask_47 (by omega) (by omega) (fun H h => ⟨(k, m), ⟨rfl, hk, rfl, hm, by rw [decide_eq_true (Int32.not_le.mp c_39)]; rfl⟩, h⟩)
end
