/-! START -/
set_option maxRecDepth 100000
def oStart (S : kr_St) (k l : Nat) : kr_St := oSet (oBorn S k l) k (oNear S k)
theorem oBorn_near (S : kr_St) (k l : Nat) : oNear (oBorn S k l) k = oNear S k := oNear_cg (oBorn_N 1 0 (by decide) (by decide) (by decide) (by decide) (by decide) (by decide)) (fun q => oBorn_N 7 q (by decide) (by decide) (by decide) (by decide) (by decide) (by decide)) k
/-- settling a player that is nowhere -/
theorem oSet_Pl {S : kr_St} {p n : Nat} (h : kr_Pl S) (hp : sN S 15 p = 1) (h4 : sN S 4 p = 0) (hn : ∀ j, n = j + 1 → j < sN S 1 0 ∧ sN S 7 j = 0) : kr_Pl (oSet S p n) := by
  obtain ⟨h1, h2⟩ := h
  have eN : ∀ a b, a ≠ 4 → sN (oSet S p n) a b = sN S a b := fun a b ha => by rw [oSet_N, if_neg (fun z => ha z.1)]
  have notin : ∀ j, j < sN S 1 0 → p ∉ sL S 2 j := fun j hj hm => by
    have := ((h1.2.2 j hj).2 p).mp hm |>.2
    omega
  have hmv : kr_pg (uN S 4 p n) (sL (oSet S p n) 2) := by
    refine h1.move hp (fun j hj hjn => ?_) (fun j hj hjn => ?_)
    · rw [oSet_L, if_neg (fun z => hjn z.2)]
      exact ⟨(h1.2.2 j hj).1, fun q => ⟨fun hq => ⟨hq, fun z => notin j hj (by rw [← z]; exact hq)⟩, fun hq => hq.1⟩⟩
    · rw [oSet_L, if_pos ⟨rfl, hjn⟩]
      exact ⟨kr_ins_nodup (h1.2.2 j hj).1 (notin j hj), fun q => kr_ins_mem⟩
  refine ⟨hmv.cg (eN 1 0 (by decide)) (fun q => eN 3 q (by decide)) (fun q => by rw [oSet_N]; rfl) (fun q => eN 15 q (by decide)) (fun j hj => by rw [eN 6 j (by decide)]; exact (h1.2.1 j hj).2.1) (fun j hj => by rw [eN 7 j (by decide)]; exact (h1.2.1 j hj).2.2) (fun j hj => rfl), fun j hj => ?_⟩
  rw [eN 1 0 (by decide)] at hj
  rw [eN 7 j (by decide), oSet_I]
  refine ⟨fun z => ?_, (h2 j hj).2⟩
  rw [oSet_L, if_neg (fun w => by have := (hn j w.2.symm).2; omega)]
  exact (h2 j hj).1 z
theorem oStart_ok {S : kr_St} {k l : Nat} (hV : kr_V S) (hP : kr_Pl S) (hk : k < sN S 1 0) (hno : sN S 3 k ≠ 1) (hl : l < sN S 0 0) : kr_V (oStart S k l) ∧ kr_Pl (oStart S k l) := by
  have hno' : sN S 15 k ≠ 1 := fun z => hno ((hP.1.1 k).mp z).2
  have hV1 := oBorn_V hV hk hno' hl
  have hP1 := oBorn_Pl (i := l) hP hk hno'
  have e1 : sN (oBorn S k l) 1 0 = sN S 1 0 := oBorn_N 1 0 (by decide) (by decide) (by decide) (by decide) (by decide) (by decide)
  have e7 : ∀ q, sN (oBorn S k l) 7 q = sN S 7 q := fun q => oBorn_N 7 q (by decide) (by decide) (by decide) (by decide) (by decide) (by decide)
  have hp : sN (oBorn S k l) 15 k = 1 := by rw [oBorn_N15, if_pos rfl]
  have hn : ∀ j, oNear S k = j + 1 → j < sN S 1 0 ∧ sN S 7 j = 0 := fun j hj => by
    rcases oNear_ok S k with e | ⟨t, e, t1, t2⟩
    · omega
    · obtain rfl : t = j := by omega
      exact ⟨t1, t2⟩
  refine ⟨hV1.set hp ?_, oSet_Pl hP1 hp (by rw [oBorn_N4, if_pos rfl]) (fun j hj => by rw [e1, e7]; exact hn j hj)⟩
  rw [e1]
  cases e : oNear S k with
  | zero => exact Nat.zero_le _
  | succ j => exact (hn j e).1
section
variable {G : kr_G} {l : Launch} {g g' : kr_Gh} {S S' : kr_St} {Z Z' : kr_Ro → Option kr_AE}
/-- what fails when a player is to start -/
def kx_start (S : kr_St) (i j : Int32) (E : String) : Prop := (¬ ((0 ≤ i ∧ i < nI (sN S 1 0)) ∧ (0 ≤ j ∧ j < nI (sN S 0 0))) ∧ E = kE_I) ∨ (((0 ≤ i ∧ i < nI (sN S 1 0)) ∧ (0 ≤ j ∧ j < nI (sN S 0 0))) ∧ (∃ k, i = nI k ∧ k < sN S 1 0 ∧ sN S 3 k = 1) ∧ E = kE_S)
theorem ct_X1_start (hF : kr_F G l) (hg : kr_gok g) (hV : kr_V S) (hP : kr_Pl S) (hZ : ∀ r z, Z r ≠ some (.inr z)) (i j : Int32) : kr_T G l yX1_start (ws_ yX1_start cX1_start 5 (Option.some Jvm.ClassFile.FieldType.int)) 9 900 [.ref (gA g (0, 0)), .int i, .int j] (kr_S G (gA g) (kr_cells G g S Z)) 9 70 (fun v H => ∃ a : Nat × Nat, (i = nI a.1 ∧ a.1 < sN S 1 0 ∧ j = nI a.2 ∧ a.2 < sN S 0 0 ∧ sN S 3 a.1 ≠ 1 ∧ v = some (.int (nI (oNear S a.1) - 1))) ∧ kr_Hx G [6, 7, 8, 9, 10] g (oStart S a.1 a.2) Z H) (fun E H => kx_start S i j E ∧ kr_S G (gA g) (kr_cells G g S Z) H) := by
  have hK6 : sN S 1 0 ≤ 6 := hV.1.2.1
  have hL8 : sN S 0 0 ≤ 8 := hV.1.1
  refine kr_T.of (by decide +kernel) hF (by simp [Value.category]) (Nat.le_of_ble_eq_true rfl) (fun x hx X => ?_)
  refine kj_aload_n X dX1_start_0 rfl rfl (by first | exact ⟨some _, rfl⟩ | exact ⟨none, rfl⟩ | exact ⟨_, rfl⟩) ?_
  refine kj_iload_n X dX1_start_1 rfl rfl ?_
  refine kj_callV X 1 (ct_X1_kioskAt X.F i hK6) (lw_V q1099 q1101 qs10 q43 q1102) ⟨rfl, by decide, by decide, by decide +kernel⟩ dX1_start_2 rfl rfl (by first | exact Nat.le_of_ble_eq_true rfl | simp [kr_cat, Value.category]) ⟨Nat.le_of_ble_eq_true rfl, Nat.le_of_ble_eq_true rfl⟩ ⟨by dsimp only; omega, by dsimp only; omega⟩ kc_X1.1 (fun H h => h.rc (kc_kio)) (fun E => kjx_out X (by omega) (by omega) (fun H h => ⟨Or.inl ⟨fun z => h.1.1 z.1, h.1.2⟩, h.2⟩)) (fun v_2 => ?_)
  refine kj_open (fun k hk => ?_)
  obtain ⟨rfl, hk, rfl⟩ := hk
  have hki : 0 ≤ nI k ∧ nI k < nI (sN S 1 0) := ⟨nI_pos' (by omega), nI_lt hk (by omega)⟩
  refine kj_astore_n (lv' := [_, _, _, _, _]) X dX1_start_5 rfl (by decide) (by intro w h _; cases h <;> first | rfl | exact kr_cat _) (by first | exact ⟨some _, rfl⟩ | exact ⟨none, rfl⟩ | exact ⟨_, rfl⟩) rfl ?_
  refine kj_aload_n X dX1_start_6 rfl rfl (by first | exact ⟨some _, rfl⟩ | exact ⟨none, rfl⟩ | exact ⟨_, rfl⟩) ?_
  refine kj_iload_n X dX1_start_7 rfl rfl ?_
  refine kj_callV X 1 (ct_X1_listAt X.F j hL8) (lw_V q564 q566 qs6 q43 q567) ⟨rfl, by decide, by decide, by decide +kernel⟩ dX1_start_8 rfl rfl (by first | exact Nat.le_of_ble_eq_true rfl | simp [kr_cat, Value.category]) ⟨Nat.le_of_ble_eq_true rfl, Nat.le_of_ble_eq_true rfl⟩ ⟨by dsimp only; omega, by dsimp only; omega⟩ kc_X1.1 (fun H h => h.rc (kc_kio)) (fun E => kjx_out X (by omega) (by omega) (fun H h => ⟨Or.inl ⟨fun z => h.1.1 z.2, h.1.2⟩, h.2⟩)) (fun v_8 => ?_)
  refine kj_open (fun i hi => ?_)
  obtain ⟨rfl, hi, rfl⟩ := hi
  have hii : 0 ≤ nI i ∧ nI i < nI (sN S 0 0) := ⟨nI_pos' (by omega), nI_lt hi (by omega)⟩
  by_cases ho : sN S 3 k = 1
  · have k5 : kr_cells G g S Z (5, k) = kr_o 6 [.int (nI k), .ref (gA g (6, k)), va_rf (some (gA g (7, k))), .int (nI (sN S 6 k)), .int (nI (sN S 7 k)), .int (sI S 3 k), .int (sI S 4 k)] := by
      rw [kc_5 hk, kr_ow_1 ho]
    refine kj_astore (lv' := [_, _, _, _, _]) X dX1_start_11 (by decide) (by intro w h _; cases h <;> first | rfl | exact kr_cat _) (by first | exact ⟨some _, rfl⟩ | exact ⟨none, rfl⟩ | exact ⟨_, rfl⟩) rfl ?_
    refine kj_aload_n X dX1_start_13 rfl rfl (by first | exact ⟨some _, rfl⟩ | exact ⟨none, rfl⟩ | exact ⟨_, rfl⟩) ?_
    refine kj_getN X kc_X15 2 (by decide) q1071 rfl dX1_start_14 (fun H h => h.own (k5)) rfl ?_
    refine kj_ifnonnull X (by first | exact Eq.refl (va_rf (some _)) | exact Eq.refl (va_rf none) | exact Eq.refl (va_rf _)) 24 dX1_start_17 (by decide) (fun a_17 c_17 => ?_) (fun c_17 => ?_)
    · refine kj_iconst (v := 0) X dX1_start_24 (by decide) ?_
      refine kj_callS X 1 (ct_X1_requireState X.F false (kr_S G (gA g) (kr_cells G g S Z)) kr_S.mono) (lw_S q486 q487 q43 q488) ⟨by decide, by decide, by decide +kernel⟩ dX1_start_25 rfl rfl (by first | exact Nat.le_of_ble_eq_true rfl | simp [kr_cat, Value.category]) ⟨Nat.le_of_ble_eq_true rfl, Nat.le_of_ble_eq_true rfl⟩ ⟨by dsimp only; omega, by dsimp only; omega⟩ (fun E => kjx_out X (by omega) (by omega) (fun H h => ⟨Or.inr ⟨⟨hki, hii⟩, ⟨k, rfl, hk, ho⟩, h.2.1⟩, h.2.2⟩)) (fun v_25 => ?_)
      refine kj_and (fun z => ?_)
      cases z
    · cases c_17
  have hno : sN S 15 k ≠ 1 := fun z => ho ((hP.1.1 k).mp z).2
  have k5 : kr_cells G g S Z (5, k) = kr_o 6 [.int (nI k), .ref (gA g (6, k)), va_rf none, .int (nI (sN S 6 k)), .int (nI (sN S 7 k)), .int (sI S 3 k), .int (sI S 4 k)] := by
    rw [kc_5 hk, kr_ow_0 ho]
  have k5' : ∀ Z, kr_cells G g S Z (5, k) = kr_o 6 [.int (nI k), .ref (gA g (6, k)), .null, .int (nI (sN S 6 k)), .int (nI (sN S 7 k)), .int (sI S 3 k), .int (sI S 4 k)] := fun Z => by
    rw [kc_5 hk, kr_ow_0 ho]
    rfl
  refine kj_astore (lv' := [_, _, _, _, _]) X dX1_start_11 (by decide) (by intro w h _; cases h <;> first | rfl | exact kr_cat _) (by first | exact ⟨some _, rfl⟩ | exact ⟨none, rfl⟩ | exact ⟨_, rfl⟩) rfl ?_
  refine kj_aload_n X dX1_start_13 rfl rfl (by first | exact ⟨some _, rfl⟩ | exact ⟨none, rfl⟩ | exact ⟨_, rfl⟩) ?_
  refine kj_getN X kc_X15 2 (by decide) q1071 rfl dX1_start_14 (fun H h => h.own (k5)) rfl ?_
  refine kj_ifnonnull X (by first | exact Eq.refl (va_rf (some _)) | exact Eq.refl (va_rf none) | exact Eq.refl (va_rf _)) 24 dX1_start_17 (by decide) (fun a_17 c_17 => ?_) (fun c_17 => ?_)
  · cases c_17
  refine kj_iconst (v := 1) X dX1_start_20 (by decide) ?_
  refine kj_goto X 25 dX1_start_21 (by decide) ?_
  refine kj_callS X 1 (ct_X1_requireState X.F true (kr_S G (gA g) (kr_cells G g S Z)) kr_S.mono) (lw_S q486 q487 q43 q488) ⟨by decide, by decide, by decide +kernel⟩ dX1_start_25 rfl rfl (by first | exact Nat.le_of_ble_eq_true rfl | simp [kr_cat, Value.category]) ⟨Nat.le_of_ble_eq_true rfl, Nat.le_of_ble_eq_true rfl⟩ ⟨by dsimp only; omega, by dsimp only; omega⟩ (fun E => kjx_pure (fun H h => h.1) (fun z => by cases z)) (fun v_25 => ?_)
  refine kj_and (fun _ => ?_)
  refine kj_and (fun e => ?_)
  subst e
  refine kj_aload_n X dX1_start_28 rfl rfl (by first | exact ⟨some _, rfl⟩ | exact ⟨none, rfl⟩ | exact ⟨_, rfl⟩) ?_
  refine kj_new (Pn := fun q H => Z (20, q) = none ∧ kr_S G (gA g) (kr_cells G g S (kr_up Z (20, q) (kr_o 5 [.int 0, .null, .null, .int 0, .int 0, .int 0]))) H) (fs := [.int 0, .null, .null, .int 0, .int 0, .int 0]) X kc_X16 q1103 q1104 q84 (fun j hj => by rcases (show j = 0 ∨ j = 1 ∨ j = 2 ∨ j = 3 ∨ j = 4 ∨ j = 5 by omega) with rfl | rfl | rfl | rfl | rfl | rfl <;> rfl) dX1_start_29 (by first | omega | (dsimp only; omega)) (by first | omega | (dsimp only; omega)) (fun H H1 h ho a u => h.mk2 hg a ho u) (fun q_29 => ?_)
  refine kj_and (fun h_q_29 => ?_)
  rw [show (Value.ref q_29) = Value.ref (gA g (20, q_29)) from by rw [(hg).2.2 q_29]]
  refine kj_dup X dX1_start_32 (by first | rfl | exact kr_cat _) ?_
  refine kj_iload_n X dX1_start_33 rfl rfl ?_
  refine kj_aload X dX1_start_34 rfl (by first | exact ⟨some _, rfl⟩ | exact ⟨none, rfl⟩ | exact ⟨_, rfl⟩) ?_
  have hzz : kr_up Z (20, q_29) (kr_o 5 [.int 0, .null, .null, .int 0, .int 0, .int 0]) (20, q_29) = kr_o 5 [.int 0, .null, .null, .int 0, .int 0, .int 0] := kr_up_s
  obtain ⟨l1, l2⟩ := hV.2.2.1 i hi
  refine kj_callI X 2 (ct_X16_init X.F hg hi hzz (by rw [l2]; exact l1) (fun b hb => by rw [l2] at hb; exact hV.2.1.2.2.1 i hi b hb)) q1107 q84 q1105 q1106 rfl ⟨by decide, by decide, by decide +kernel⟩ dX1_start_36 rfl rfl (by first | exact Nat.le_of_ble_eq_true rfl | simp [kr_cat, Value.category]) ⟨Nat.le_of_ble_eq_true rfl, Nat.le_of_ble_eq_true rfl⟩ ⟨by dsimp only; omega, by dsimp only; omega⟩ (fun E => kjx_no) (fun v_36 => ?_)
  refine kj_open (fun a ha => ?_)
  obtain ⟨hv, ⟨b1, b2, b3⟩, b4, b5, b6⟩ := ha
  subst hv
  obtain ⟨q1, q2, q3⟩ := a
  dsimp only at b1 b2 b3 b4 b5 b6 ⊢
  have n1 := kr_new20 hzz (fun z => by cases z) b1
  have n2 := kr_new20 hzz (fun z => by cases z) b2
  have n3 := kr_new20 hzz (fun z => by cases z) b3
  rw [kr_up_n (kr_ne20 n1)] at b1
  rw [kr_up_n (kr_ne20 n2)] at b2
  rw [kr_up_n (kr_ne20 n3)] at b3
  rw [kr_up_abs3 (kr_ne20 n3) (kr_ne20 n2) (kr_ne20 n1)]
  refine kj_putN X kc_X15 2 (by decide) q1071 rfl rfl dX1_start_39 (by first | rfl | exact kr_nar _ _ | exact kr_narb _) (by first | rfl | exact kr_fitr _ _ | exact kr_fitb _) (Nat.le_of_ble_eq_true rfl) (fun H h => h.own (k5' _)) (fun H H1 h a u => h.upd (fs' := [.int (nI k), .ref (gA g (6, k)), .ref (gA g (20, q_29)), .int (nI (sN S 6 k)), .int (nI (sN S 7 k)), .int (sI S 3 k), .int (sI S 4 k)]) (k5' _) rfl a u) ?_
  refine kj_P (P' := fun H => kr_Hx G [7, 8, 9, 10] g (oBorn S k i) Z H) (fun H h => ?_) ?_
  · rw [hg.2.2] at h
    exact kr_S.newPlayer hV hk hno hi hg hZ h_q_29 b1 b2 b3 n1 n2 n3 b4 b5 b6 h
  refine kj_open (fun g2 hg2 => ?_)
  obtain ⟨hs2, hok2⟩ := hg2
  have hV1 := oBorn_V hV hk hno hi
  have hP1 := oBorn_Pl (i := i) hP hk hno
  have e1 : sN (oBorn S k i) 1 0 = sN S 1 0 := oBorn_N 1 0 (by decide) (by decide) (by decide) (by decide) (by decide) (by decide)
  have hp : sN (oBorn S k i) 15 k = 1 := by rw [oBorn_N15, if_pos rfl]
  have hk1 : k < sN (oBorn S k i) 1 0 := by omega
  have e0 : gA g2 (0, 0) = gA g (0, 0) := (hs2 (0, 0) (by decide)).1
  have e5 : gA g2 (5, k) = gA g (5, k) := (hs2 (5, k) (by show (5 : Nat) ∉ [7, 8, 9, 10]; decide)).1
  have k5b : ∀ g' Z, kr_cells G g' (oBorn S k i) Z (5, k) = kr_o 6 [.int (nI k), .ref (gA g' (6, k)), .ref (gA g' (7, k)), .int (nI (sN (oBorn S k i) 6 k)), .int (nI (sN (oBorn S k i) 7 k)), .int (sI (oBorn S k i) 3 k), .int (sI (oBorn S k i) 4 k)] := fun g' Z => by
    rw [kc_5 hk1, kr_ow_1 (by rw [oBorn_N3, if_pos rfl])]
    rfl
  have eT : oStart S k i = oSet (oBorn S k i) k (oNear S k) := rfl
  have hno4 : ∀ j, oNear S k = j + 1 → j < sN (oBorn S k i) 1 0 ∧ (sN (oBorn S k i) 3 j = 1 → sN (oBorn S k i) 15 j = 1) ∧ (sL (oBorn S k i) 2 j).length ≤ 9 := fun j hj => by
    rcases oNear_ok S k with e | ⟨t, e, t1, t2⟩
    · omega
    · obtain rfl : t = j := by omega
      have ht : t < sN (oBorn S k i) 1 0 := by omega
      exact ⟨ht, fun z => (hP1.1.1 t).mpr ⟨ht, z⟩, Nat.le_trans (hP1.1.le hV1.1.2.1 ht) (by decide)⟩
  rw [← e0, ← e5]
  refine kj_aload_n X dX1_start_42 rfl rfl (by first | exact ⟨some _, rfl⟩ | exact ⟨none, rfl⟩ | exact ⟨_, rfl⟩) ?_
  refine kj_aload_n X dX1_start_43 rfl rfl (by first | exact ⟨some _, rfl⟩ | exact ⟨none, rfl⟩ | exact ⟨_, rfl⟩) ?_
  refine kj_getN X kc_X15 2 (by decide) q1071 rfl dX1_start_44 (fun H h => h.own (k5b _ _)) rfl ?_
  refine kj_aload_n X dX1_start_47 rfl rfl (by first | exact ⟨some _, rfl⟩ | exact ⟨none, rfl⟩ | exact ⟨_, rfl⟩) ?_
  refine kj_iload_n X dX1_start_48 rfl rfl ?_
  refine kj_callV X 1 (ct_X1_nearest X.F (by omega) (by omega) (fun j hj => (hP1.1.2.1 j hj).2.2)) (lw_V q1165 q1167 qs11 q43 q1168) ⟨rfl, by decide, by decide, by decide +kernel⟩ dX1_start_49 rfl rfl (by first | exact Nat.le_of_ble_eq_true rfl | simp [kr_cat, Value.category]) ⟨Nat.le_of_ble_eq_true rfl, Nat.le_of_ble_eq_true rfl⟩ ⟨by dsimp only; omega, by dsimp only; omega⟩ kc_X1.1 (fun H h => h.rc (kc_kio)) (fun E => kjx_no) (fun v_49 => ?_)
  refine kj_and (fun e_49 => ?_)
  subst e_49
  rw [oBorn_near]
  refine kj_callV X 2 (ct_X1_settle X.F hok2 hp hno4 _) (lw_V q1169 q1171 qs12 q43 q1172) ⟨rfl, by decide, by decide, by decide +kernel⟩ dX1_start_52 rfl rfl (by first | exact Nat.le_of_ble_eq_true rfl | simp [kr_cat, Value.category]) ⟨Nat.le_of_ble_eq_true rfl, Nat.le_of_ble_eq_true rfl⟩ ⟨by dsimp only; omega, by dsimp only; omega⟩ kc_X1.1 (fun H h => h.rc (kc_kio)) (fun E => kjx_no) (fun v_52 => ?_)
  refine kj_and (fun e_52 => ?_)
  subst e_52
  refine kj_open (fun g3 hg3 => ?_)
  have f0 : gA g3 (0, 0) = gA g2 (0, 0) := (hg3.1 (0, 0) (by decide)).1
  have f5 : gA g3 (5, k) = gA g2 (5, k) := (hg3.1 (5, k) (by show (5 : Nat) ∉ [6]; decide)).1
  have hs3 : kr_gsm [6, 7, 8, 9, 10] g g3 := hs2.tr hg3.1 (by simp) (by simp)
  rw [← f5]
  have eN : ∀ a b, a ≠ 4 → sN (oSet (oBorn S k i) k (oNear S k)) a b = sN (oBorn S k i) a b := fun a b ha => by rw [oSet_N, if_neg (fun z => ha z.1)]
  have e4 : sN (oSet (oBorn S k i) k (oNear S k)) 4 k = oNear S k := by rw [oSet_N, if_pos ⟨rfl, rfl⟩]
  rw [← eT] at e4 eN ⊢
  have hkT : k < sN (oStart S k i) 1 0 := by rw [eN 1 0 (by decide)]; omega
  have hpT : sN (oStart S k i) 15 k = 1 := by rw [eN 15 k (by decide)]; exact hp
  have k5c : kr_cells G g3 (oStart S k i) Z (5, k) = kr_o 6 [.int (nI k), .ref (gA g3 (6, k)), .ref (gA g3 (7, k)), .int (nI (sN (oStart S k i) 6 k)), .int (nI (sN (oStart S k i) 7 k)), .int (sI (oStart S k i) 3 k), .int (sI (oStart S k i) 4 k)] := by
    rw [kc_5 hkT, kr_ow_1 (by rw [eN 3 k (by decide), oBorn_N3, if_pos rfl])]
    rfl
  have k7 : ∀ t, oNear S k = t → kr_cells G g3 (oStart S k i) Z (7, k) = kr_o 5 [.int (nI k), .ref (gA g3 (8, k)), va_rf (kr_op (fun i => gA g3 (5, i)) t), .int (sI (oStart S k i) 1 k), .int (sI (oStart S k i) 2 k), .int (nI (sN (oStart S k i) 8 k))] := fun t e => by rw [kc_7 hpT, e4, e]
  cases e : oNear S k with
  | zero =>
    refine kj_aload_n X dX1_start_55 rfl rfl (by first | exact ⟨some _, rfl⟩ | exact ⟨none, rfl⟩ | exact ⟨_, rfl⟩) ?_
    refine kj_getN X kc_X15 2 (by decide) q1071 rfl dX1_start_56 (fun H h => h.own (k5c)) rfl ?_
    refine kj_getN X kc_X16 2 (by decide) q1143 rfl dX1_start_59 (fun H h => h.own (k7 0 e)) rfl ?_
    refine kj_ifnonnull X (by first | exact Eq.refl (va_rf (some _)) | exact Eq.refl (va_rf none) | exact Eq.refl (va_rf _)) 69 dX1_start_62 (by decide) (fun a_62 c_62 => ?_) (fun c_62 => ?_)
    · cases c_62
    refine kj_iconst (v := -1) X dX1_start_65 (by decide) ?_
    refine kj_goto X 79 dX1_start_66 (by decide) ?_
    exact kj_iret X dX1_start_79 (by omega) (by omega) (fun H h => ⟨(k, i), ⟨rfl, hk, rfl, hi, ho, by rw [e]; rfl⟩, kr_Hx.of h hs3 hg3.2⟩)
  | succ t =>
    have ht := (hno4 t e).1
    have htT : t < sN (oStart S k i) 1 0 := by rw [eN 1 0 (by decide)]; exact ht
    refine kj_aload_n X dX1_start_55 rfl rfl (by first | exact ⟨some _, rfl⟩ | exact ⟨none, rfl⟩ | exact ⟨_, rfl⟩) ?_
    refine kj_getN X kc_X15 2 (by decide) q1071 rfl dX1_start_56 (fun H h => h.own (k5c)) rfl ?_
    refine kj_getN X kc_X16 2 (by decide) q1143 rfl dX1_start_59 (fun H h => h.own (k7 (t + 1) e)) rfl ?_
    refine kj_ifnonnull X (by first | exact Eq.refl (va_rf (some _)) | exact Eq.refl (va_rf none) | exact Eq.refl (va_rf _)) 69 dX1_start_62 (by decide) (fun a_62 c_62 => ?_) (fun c_62 => ?_)
    · refine kj_aload_n X dX1_start_69 rfl rfl (by first | exact ⟨some _, rfl⟩ | exact ⟨none, rfl⟩ | exact ⟨_, rfl⟩) ?_
      refine kj_getN X kc_X15 2 (by decide) q1071 rfl dX1_start_70 (fun H h => h.own (k5c)) rfl ?_
      refine kj_getN X kc_X16 2 (by decide) q1143 rfl dX1_start_73 (fun H h => h.own (k7 (t + 1) e)) rfl ?_
      refine kj_getN X kc_X15 0 (by decide) q1067 rfl dX1_start_76 (fun H h => h.own (kc_5 htT)) rfl ?_
      exact kj_iret X dX1_start_79 (by omega) (by omega) (fun H h => ⟨(k, i), ⟨rfl, hk, rfl, hi, ho, by dsimp only; rw [e, kr_dec (by omega)]; rfl⟩, kr_Hx.of h hs3 hg3.2⟩)
    · cases c_62
end
