/-! THE MODEL'S LEAVES -/
set_option maxRecDepth 100000
abbrev kM (G : kr_G) (g : kr_Gh) (S : kr_St) (Z : kr_Ro → Option kr_AE) (M : kr_M) : Heap → Prop := kr_S G (gA g) (kr_cells G g S (zM G g M Z))
theorem kr_vnb (b : Bool) : vp_nar .boolean (kr_b b) = kr_b b := by cases b <;> decide
def mHeld (M : kr_M) (own : Int32) (n : Nat) : Nat := (List.range n).countP (fun d => decide (mA M 20 d = own))
def mPres (M : kr_M) (k : Int32) (n : Nat) : Nat := (List.range n).countP (fun v => decide (mA M 24 v = k))
theorem kr_cnt (f : Nat → Bool) (n : Nat) : (List.range (n + 1)).countP f = (List.range n).countP f + (if f n then 1 else 0) := by
  rw [List.range_succ, List.countP_append, List.countP_singleton]
theorem kr_cnt_le (f : Nat → Bool) (n : Nat) : (List.range n).countP f ≤ n := Nat.le_trans List.countP_le_length (by rw [List.length_range]; exact Nat.le_refl _)
section
variable {G : kr_G} {l : Launch} {g g' : kr_Gh} {S S' : kr_St} {Z Z' : kr_Ro → Option kr_AE} {M : kr_M}
theorem ct_X3_thrown (hF : kr_F G l) : kr_T G l yX3_thrown (ws_ yX3_thrown cX3_thrown 1 (Option.some Jvm.ClassFile.FieldType.int)) 1 20 [.ref (gA g (100, 0))] (kM G g S Z M) 0 0 (fun v H => v = some (.int (mA M 30 0)) ∧ kM G g S Z M H) kr_no := by
  refine kr_T.of (by decide +kernel) hF (by simp [Value.category]) (Nat.le_of_ble_eq_true rfl) (fun x hx X => ?_)
  refine kj_aload_n X dX3_thrown_0 rfl rfl (by first | exact ⟨some _, rfl⟩ | exact ⟨none, rfl⟩ | exact ⟨_, rfl⟩) ?_
  refine kj_get X kc_X3 30 (by decide) q1583 (Or.inl rfl) dX3_thrown_1 (fun H h => h.own zM_o) rfl ?_
  exact kj_iret X dX3_thrown_4 (by omega) (by omega) (fun H h => ⟨rfl, h⟩)
theorem ct_X3_isIn (hF : kr_F G l) {P : Heap → Prop} (v a b : Int32) : kr_T G l yX3_isIn (ws_ yX3_isIn cX3_isIn 3 (Option.some Jvm.ClassFile.FieldType.boolean)) 1 20 [.int v, .int a, .int b] P 0 0 (fun w H => w = some (.int (kr_b (decide (a ≤ v ∧ v ≤ b)))) ∧ P H) kr_no := by
  refine kr_T.of (by decide +kernel) hF (by simp [Value.category]) (Nat.le_of_ble_eq_true rfl) (fun x hx X => ?_)
  refine kj_iload_n X dX3_isIn_0 rfl rfl ?_
  refine kj_iload_n X dX3_isIn_1 rfl rfl ?_
  refine kj_icmp_lt X 14 dX3_isIn_2 (by decide) (fun c_2 => ?_) (fun c_2 => ?_)
  · refine kj_iconst (v := nI 0) X dX3_isIn_14 (by decide) ?_
    exact kj_zret X rfl dX3_isIn_15 (by omega) (by omega) (fun H h => ⟨by rw [decide_eq_false (fun z => absurd z.1 (Int32.not_le.mpr c_2))]; rfl, h⟩)
  refine kj_iload_n X dX3_isIn_5 rfl rfl ?_
  refine kj_iload_n X dX3_isIn_6 rfl rfl ?_
  refine kj_icmp_gt X 14 dX3_isIn_7 (by decide) (fun c_7 => ?_) (fun c_7 => ?_)
  · refine kj_iconst (v := nI 0) X dX3_isIn_14 (by decide) ?_
    exact kj_zret X rfl dX3_isIn_15 (by omega) (by omega) (fun H h => ⟨by rw [decide_eq_false (fun z => absurd z.2 (Int32.not_le.mpr c_7))]; rfl, h⟩)
  · refine kj_iconst (v := nI 1) X dX3_isIn_10 (by decide) ?_
    refine kj_goto X 15 dX3_isIn_11 (by decide) ?_
    exact kj_zret X rfl dX3_isIn_15 (by omega) (by omega) (fun H h => ⟨by rw [decide_eq_true ⟨Int32.not_lt.mp c_2, Int32.not_lt.mp c_7⟩]; rfl, h⟩)
theorem ct_X3_isThrown (hF : kr_F G l) (b : Bool) (n : Int32) : kr_T G l yX3_isThrown (ws_ yX3_isThrown cX3_isThrown 3 (Option.some Jvm.ClassFile.FieldType.boolean)) 1 30 [.ref (gA g (100, 0)), .int (kr_b b), .int n] (kM G g S Z M) 0 0 (fun v H => v = some (.int (kr_b b)) ∧ kM G g S Z (mS M 30 0 (if b then n else 0)) H) kr_no := by
  refine kr_T.of (by decide +kernel) hF (by simp [Value.category]) (Nat.le_of_ble_eq_true rfl) (fun x hx X => ?_)
  cases b with
  | true =>
    refine kj_aload_n X dX3_isThrown_0 rfl rfl (by first | exact ⟨some _, rfl⟩ | exact ⟨none, rfl⟩ | exact ⟨_, rfl⟩) ?_
    refine kj_iload_n X dX3_isThrown_1 rfl rfl ?_
    refine kj_if_eq X 9 dX3_isThrown_2 (by decide) (fun c_2 => ?_) (fun c_2 => ?_)
    · exact absurd c_2 (by decide)
    refine kj_iload_n X dX3_isThrown_5 rfl rfl ?_
    refine kj_goto X 10 dX3_isThrown_6 (by decide) ?_
    refine kj_put X kc_X3 30 (by decide) q1583 (Or.inl rfl) rfl dX3_isThrown_10 (by first | rfl | exact kr_nar _ _ | exact kr_narb _) (by first | rfl | exact kr_fitr _ _ | exact kr_fitb _) (Nat.le_of_ble_eq_true rfl) (fun H h => h.own zM_o) (fun H H1 h a u => h.upd zM_o kms_30 a u) ?_
    refine kj_iload_n X dX3_isThrown_13 rfl rfl ?_
    exact kj_zret X rfl dX3_isThrown_14 (by omega) (by omega) (fun H h => ⟨rfl, h⟩)
  | false =>
    refine kj_aload_n X dX3_isThrown_0 rfl rfl (by first | exact ⟨some _, rfl⟩ | exact ⟨none, rfl⟩ | exact ⟨_, rfl⟩) ?_
    refine kj_iload_n X dX3_isThrown_1 rfl rfl ?_
    refine kj_if_eq X 9 dX3_isThrown_2 (by decide) (fun c_2 => ?_) (fun c_2 => ?_)
    rotate_left
    · exact absurd rfl c_2
    refine kj_iconst (v := nI 0) X dX3_isThrown_9 (by decide) ?_
    refine kj_put X kc_X3 30 (by decide) q1583 (Or.inl rfl) rfl dX3_isThrown_10 (by first | rfl | exact kr_nar _ _ | exact kr_narb _) (by first | rfl | exact kr_fitr _ _ | exact kr_fitb _) (Nat.le_of_ble_eq_true rfl) (fun H h => h.own zM_o) (fun H H1 h a u => h.upd zM_o kms_30 a u) ?_
    refine kj_iload_n X dX3_isThrown_13 rfl rfl ?_
    exact kj_zret X rfl dX3_isThrown_14 (by omega) (by omega) (fun H h => ⟨rfl, h⟩)
theorem ct_X3_apart (hF : kr_F G l) {P : Heap → Prop} {a b : Nat} (ha : a < 2 ^ 31) (hb : b < 2 ^ 31) : kr_T G l yX3_apart (ws_ yX3_apart cX3_apart 2 (Option.some Jvm.ClassFile.FieldType.int)) 1 20 [.int (nI a), .int (nI b)] P 0 0 (fun w H => w = some (.int (nI (if b < a then a - b else b - a))) ∧ P H) kr_no := by
  refine kr_T.of (by decide +kernel) hF (by simp [Value.category]) (Nat.le_of_ble_eq_true rfl) (fun x hx X => ?_)
  refine kj_iload_n X dX3_apart_0 rfl rfl ?_
  refine kj_iload_n X dX3_apart_1 rfl rfl ?_
  first | refine kj_icmp_leN X 11 dX3_apart_2 (by decide) (by omega) (by omega) (fun c_2 => ?_) (fun c_2 => ?_) | refine kj_icmp_le X 11 dX3_apart_2 (by decide) (fun c_2 => ?_) (fun c_2 => ?_)
  · refine kj_iload_n X dX3_apart_11 rfl rfl ?_
    refine kj_iload_n X dX3_apart_12 rfl rfl ?_
    first | refine kj_isubN X (by omega) dX3_apart_13 ?_ | refine kj_isub X dX3_apart_13 ?_
    exact kj_iret X dX3_apart_14 (by omega) (by omega) (fun H h => ⟨by rw [if_neg (by omega)], h⟩)
  · refine kj_iload_n X dX3_apart_5 rfl rfl ?_
    refine kj_iload_n X dX3_apart_6 rfl rfl ?_
    first | refine kj_isubN X (by omega) dX3_apart_7 ?_ | refine kj_isub X dX3_apart_7 ?_
    refine kj_goto X 14 dX3_apart_8 (by decide) ?_
    exact kj_iret X dX3_apart_14 (by omega) (by omega) (fun H h => ⟨by rw [if_pos (by omega)], h⟩)
theorem ct_X3_isList (hF : kr_F G l) {K : Nat} (hK : mA M 26 0 = nI K) (i : Int32) : kr_T G l yX3_isList (ws_ yX3_isList cX3_isList 2 (Option.some Jvm.ClassFile.FieldType.boolean)) 2 50 [.ref (gA g (100, 0)), .int i] (kM G g S Z M) 0 0 (fun v H => v = some (.int (kr_b (decide (0 ≤ i ∧ i ≤ nI K - 1)))) ∧ kM G g S Z M H) kr_no := by
  refine kr_T.of (by decide +kernel) hF (by simp [Value.category]) (Nat.le_of_ble_eq_true rfl) (fun x hx X => ?_)
  refine kj_iload_n X dX3_isList_0 rfl rfl ?_
  refine kj_iconst (v := nI 0) X dX3_isList_1 (by decide) ?_
  refine kj_aload_n X dX3_isList_2 rfl rfl (by first | exact ⟨some _, rfl⟩ | exact ⟨none, rfl⟩ | exact ⟨_, rfl⟩) ?_
  refine kj_get X kc_X3 26 (by decide) q1579 (Or.inl rfl) dX3_isList_3 (fun H h => h.own zM_o) rfl ?_
  rw [hK]
  refine kj_iconst (v := nI 1) X dX3_isList_6 (by decide) ?_
  refine kj_isub X dX3_isList_7 ?_
  refine kj_callS X 3 (ct_X3_isIn X.F i 0 (nI K - 1)) (lw_S q1670 q1671 q52 q1672) ⟨by decide, by decide, by decide +kernel⟩ dX3_isList_8 rfl rfl (by first | exact Nat.le_of_ble_eq_true rfl | simp [kr_cat, Value.category]) ⟨Nat.le_of_ble_eq_true rfl, Nat.le_of_ble_eq_true rfl⟩ ⟨by dsimp only; omega, by dsimp only; omega⟩ (fun E => kjx_no) (fun v_8 => ?_)
  refine kj_and (fun e_8 => ?_)
  subst e_8
  exact kj_zret X (by first | rfl | exact kr_narb _) dX3_isList_11 (by omega) (by omega) (fun H h => ⟨rfl, h⟩)
theorem ct_X3_isKiosk (hF : kr_F G l) {K : Nat} (hK : mA M 27 0 = nI K) (i : Int32) : kr_T G l yX3_isKiosk (ws_ yX3_isKiosk cX3_isKiosk 2 (Option.some Jvm.ClassFile.FieldType.boolean)) 2 50 [.ref (gA g (100, 0)), .int i] (kM G g S Z M) 0 0 (fun v H => v = some (.int (kr_b (decide (0 ≤ i ∧ i ≤ nI K - 1)))) ∧ kM G g S Z M H) kr_no := by
  refine kr_T.of (by decide +kernel) hF (by simp [Value.category]) (Nat.le_of_ble_eq_true rfl) (fun x hx X => ?_)
  refine kj_iload_n X dX3_isKiosk_0 rfl rfl ?_
  refine kj_iconst (v := nI 0) X dX3_isKiosk_1 (by decide) ?_
  refine kj_aload_n X dX3_isKiosk_2 rfl rfl (by first | exact ⟨some _, rfl⟩ | exact ⟨none, rfl⟩ | exact ⟨_, rfl⟩) ?_
  refine kj_get X kc_X3 27 (by decide) q1580 (Or.inl rfl) dX3_isKiosk_3 (fun H h => h.own zM_o) rfl ?_
  rw [hK]
  refine kj_iconst (v := nI 1) X dX3_isKiosk_6 (by decide) ?_
  refine kj_isub X dX3_isKiosk_7 ?_
  refine kj_callS X 3 (ct_X3_isIn X.F i 0 (nI K - 1)) (lw_S q1670 q1671 q52 q1672) ⟨by decide, by decide, by decide +kernel⟩ dX3_isKiosk_8 rfl rfl (by first | exact Nat.le_of_ble_eq_true rfl | simp [kr_cat, Value.category]) ⟨Nat.le_of_ble_eq_true rfl, Nat.le_of_ble_eq_true rfl⟩ ⟨by dsimp only; omega, by dsimp only; omega⟩ (fun E => kjx_no) (fun v_8 => ?_)
  refine kj_and (fun e_8 => ?_)
  subst e_8
  exact kj_zret X (by first | rfl | exact kr_narb _) dX3_isKiosk_11 (by omega) (by omega) (fun H h => ⟨rfl, h⟩)
theorem ct_X3_isDevice (hF : kr_F G l) {P : Heap → Prop} (i : Int32) : kr_T G l yX3_isDevice (ws_ yX3_isDevice cX3_isDevice 1 (Option.some Jvm.ClassFile.FieldType.boolean)) 2 50 [.int i] P 0 0 (fun v H => v = some (.int (kr_b (decide (0 ≤ i ∧ i ≤ 5)))) ∧ P H) kr_no := by
  refine kr_T.of (by decide +kernel) hF (by simp [Value.category]) (Nat.le_of_ble_eq_true rfl) (fun x hx X => ?_)
  refine kj_iload_n X dX3_isDevice_0 rfl rfl ?_
  refine kj_iconst (v := nI 0) X dX3_isDevice_1 (by decide) ?_
  refine kj_iconst (v := nI 5) X dX3_isDevice_2 (by decide) ?_
  refine kj_callS X 3 (ct_X3_isIn X.F i 0 5) (lw_S q1670 q1671 q52 q1672) ⟨by decide, by decide, by decide +kernel⟩ dX3_isDevice_3 rfl rfl (by first | exact Nat.le_of_ble_eq_true rfl | simp [kr_cat, Value.category]) ⟨Nat.le_of_ble_eq_true rfl, Nat.le_of_ble_eq_true rfl⟩ ⟨by dsimp only; omega, by dsimp only; omega⟩ (fun E => kjx_no) (fun v_3 => ?_)
  refine kj_and (fun e_3 => ?_)
  subst e_3
  exact kj_zret X (by first | rfl | exact kr_narb _) dX3_isDevice_6 (by omega) (by omega) (fun H h => ⟨rfl, h⟩)
theorem ct_X3_isNoVisitor (hF : kr_F G l) {K : Nat} (hK : mA M 28 0 = nI K) (i : Int32) : kr_T G l yX3_isNoVisitor (ws_ yX3_isNoVisitor cX3_isNoVisitor 2 (Option.some Jvm.ClassFile.FieldType.boolean)) 3 100 [.ref (gA g (100, 0)), .int i] (kM G g S Z M) 0 0 (fun v H => v = some (.int (kr_b (!decide (0 ≤ i ∧ i ≤ nI K - 1)))) ∧ kM G g S Z (mS M 30 0 (if 0 ≤ i ∧ i ≤ nI K - 1 then 0 else 1)) H) kr_no := by
  refine kr_T.of (by decide +kernel) hF (by simp [Value.category]) (Nat.le_of_ble_eq_true rfl) (fun x hx X => ?_)
  refine kj_aload_n X dX3_isNoVisitor_0 rfl rfl (by first | exact ⟨some _, rfl⟩ | exact ⟨none, rfl⟩ | exact ⟨_, rfl⟩) ?_
  refine kj_iload_n X dX3_isNoVisitor_1 rfl rfl ?_
  refine kj_iconst (v := nI 0) X dX3_isNoVisitor_2 (by decide) ?_
  refine kj_aload_n X dX3_isNoVisitor_3 rfl rfl (by first | exact ⟨some _, rfl⟩ | exact ⟨none, rfl⟩ | exact ⟨_, rfl⟩) ?_
  refine kj_get X kc_X3 28 (by decide) q1581 (Or.inl rfl) dX3_isNoVisitor_4 (fun H h => h.own zM_o) rfl ?_
  rw [hK]
  refine kj_iconst (v := nI 1) X dX3_isNoVisitor_7 (by decide) ?_
  refine kj_isub X dX3_isNoVisitor_8 ?_
  refine kj_callS X 3 (ct_X3_isIn X.F i 0 (nI K - 1)) (lw_S q1670 q1671 q52 q1672) ⟨by decide, by decide, by decide +kernel⟩ dX3_isNoVisitor_9 rfl rfl (by first | exact Nat.le_of_ble_eq_true rfl | simp [kr_cat, Value.category]) ⟨Nat.le_of_ble_eq_true rfl, Nat.le_of_ble_eq_true rfl⟩ ⟨by dsimp only; omega, by dsimp only; omega⟩ (fun E => kjx_no) (fun v_9 => ?_)
  refine kj_and (fun e_9 => ?_)
  subst e_9
  first | refine kj_if_neB X 19 dX3_isNoVisitor_12 (by decide) (fun c_12 => ?_) (fun c_12 => ?_) | refine kj_if_neN X 19 dX3_isNoVisitor_12 (by decide) (by omega) (fun c_12 => ?_) (fun c_12 => ?_) | refine kj_if_ne X 19 dX3_isNoVisitor_12 (by decide) (fun c_12 => ?_) (fun c_12 => ?_)
  · refine kj_iconst (v := nI 0) X dX3_isNoVisitor_19 (by decide) ?_
    refine kj_iconst (v := nI 1) X dX3_isNoVisitor_20 (by decide) ?_
    refine kj_callV X 2 (ct_X3_isThrown X.F false 1) (lw_V q1658 q1660 qs22 q52 q1661) ⟨rfl, by decide, by decide, by decide +kernel⟩ dX3_isNoVisitor_21 rfl rfl (by first | exact Nat.le_of_ble_eq_true rfl | simp [kr_cat, Value.category]) ⟨Nat.le_of_ble_eq_true rfl, Nat.le_of_ble_eq_true rfl⟩ ⟨by dsimp only; omega, by dsimp only; omega⟩ kc_X3.1 (fun H h => h.rc zM_o) (fun E => kjx_no) (fun v_21 => ?_)
    refine kj_and (fun e_21 => ?_)
    subst e_21
    rw [decide_eq_true c_12, if_pos c_12]
    exact kj_zret X rfl dX3_isNoVisitor_24 (by omega) (by omega) (fun H h => ⟨rfl, h⟩)
  · refine kj_iconst (v := nI 1) X dX3_isNoVisitor_15 (by decide) ?_
    refine kj_goto X 20 dX3_isNoVisitor_16 (by decide) ?_
    refine kj_iconst (v := nI 1) X dX3_isNoVisitor_20 (by decide) ?_
    refine kj_callV X 2 (ct_X3_isThrown X.F true 1) (lw_V q1658 q1660 qs22 q52 q1661) ⟨rfl, by decide, by decide, by decide +kernel⟩ dX3_isNoVisitor_21 rfl rfl (by first | exact Nat.le_of_ble_eq_true rfl | simp [kr_cat, Value.category]) ⟨Nat.le_of_ble_eq_true rfl, Nat.le_of_ble_eq_true rfl⟩ ⟨by dsimp only; omega, by dsimp only; omega⟩ kc_X3.1 (fun H h => h.rc zM_o) (fun E => kjx_no) (fun v_21 => ?_)
    refine kj_and (fun e_21 => ?_)
    subst e_21
    rw [decide_eq_false c_12, if_neg c_12]
    exact kj_zret X rfl dX3_isNoVisitor_24 (by omega) (by omega) (fun H h => ⟨rfl, h⟩)
theorem ct_X3_top (hF : kr_F G l) {p d : Nat} (hp : p < 6) (hd : mA M 11 p = nI d) (h1 : 1 ≤ d) (h4 : d ≤ 4) : kr_T G l yX3_top (ws_ yX3_top cX3_top 2 (Option.some Jvm.ClassFile.FieldType.int)) 1 30 [.ref (gA g (100, 0)), .int (nI p)] (kM G g S Z M) 0 0 (fun v H => v = some (.int (nI (4 * p + (d - 1)))) ∧ kM G g S Z M H) kr_no := by
  refine kr_T.of (by decide +kernel) hF (by simp [Value.category]) (Nat.le_of_ble_eq_true rfl) (fun x hx X => ?_)
  refine kj_iconst (v := nI 4) X dX3_top_0 (by decide) ?_
  refine kj_iload_n X dX3_top_1 rfl rfl ?_
  first | refine kj_imulN X dX3_top_2 ?_ | refine kj_imul X dX3_top_2 ?_
  refine kj_aload_n X dX3_top_3 rfl rfl (by first | exact ⟨some _, rfl⟩ | exact ⟨none, rfl⟩ | exact ⟨_, rfl⟩) ?_
  refine kj_get X kc_X3 11 (by decide) q1564 (Or.inl rfl) dX3_top_4 (fun H h => h.own zM_o) rfl ?_
  refine kj_iload_n X dX3_top_7 rfl rfl ?_
  refine kj_ialdN X dX3_top_8 (fun H h => h.own km_11) (by omega) (by decide) ?_
  rw [hd]
  first | refine kj_iaddN X dX3_top_9 ?_ | refine kj_iadd X dX3_top_9 ?_
  refine kj_iconst (v := nI 1) X dX3_top_10 (by decide) ?_
  first | refine kj_isubN X (by omega) dX3_top_11 ?_ | refine kj_isub X dX3_top_11 ?_
  exact kj_iret X dX3_top_12 (by omega) (by omega) (fun H h => ⟨by rw [show 4 * p + d - 1 = 4 * p + (d - 1) by omega], h⟩)
theorem ct_X3_held (hF : kr_F G l) (own : Int32) : kr_T G l yX3_held (ws_ yX3_held cX3_held 4 (Option.some Jvm.ClassFile.FieldType.int)) 1 40 [.ref (gA g (100, 0)), .int own] (kM G g S Z M) 0 0 (fun v H => v = some (.int (nI (mHeld M own 6))) ∧ kM G g S Z M H) kr_no := by
  refine kr_T.of (by decide +kernel) hF (by simp [Value.category]) (Nat.le_of_ble_eq_true rfl) (fun x hx X => ?_)
  refine kj_iconst (v := nI 0) X dX3_held_0 (by decide) ?_
  refine kj_istore_n (lv' := [_, _, _, _]) X dX3_held_1 rfl (by decide) (by intro w h _; cases h <;> first | rfl | exact kr_cat _) rfl ?_
  refine kj_iconst (v := nI 0) X dX3_held_2 (by decide) ?_
  refine kj_istore_n (lv' := [_, _, _, _]) X dX3_held_3 rfl (by decide) (by intro w h _; cases h <;> first | rfl | exact kr_cat _) rfl ?_
  have loop : ∀ m j, j + m = 6 → kr_J G x 4 (kr_Q G x 0 0 (fun v H => v = some (.int (nI (mHeld M own 6))) ∧ kM G g S Z M H) kr_no) (kM G g S Z M) 0 0 4 [some (.ref (gA g (100, 0))), some (.int own), some (.int (nI (mHeld M own j))), some (.int (nI j))] [] := by
    intro m
    induction m with
    | zero =>
      intro j hj
      obtain rfl : j = 6 := by omega
      refine kj_iload_n X dX3_held_4 rfl rfl ?_
      refine kj_bipush (v := nI 6) X dX3_held_5 (by decide) ?_
      first | refine kj_icmp_geN X 34 dX3_held_7 (by decide) (by omega) (by omega) (fun c_7 => ?_) (fun c_7 => ?_) | refine kj_icmp_ge X 34 dX3_held_7 (by decide) (fun c_7 => ?_) (fun c_7 => ?_)
      · refine kj_iload_n X dX3_held_34 rfl rfl ?_
        exact kj_iret X dX3_held_35 (by omega) (by omega) (fun H h => ⟨rfl, h⟩)
      · omega
    | succ m ih =>
      intro j hj
      have es : mHeld M own (j + 1) = mHeld M own j + (if decide (mA M 20 j = own) then 1 else 0) := kr_cnt _ j
      have nxt := ih (j + 1) (by omega)
      rw [es] at nxt
      refine kj_iload_n X dX3_held_4 rfl rfl ?_
      refine kj_bipush (v := nI 6) X dX3_held_5 (by decide) ?_
      first | refine kj_icmp_geN X 34 dX3_held_7 (by decide) (by omega) (by omega) (fun c_7 => ?_) (fun c_7 => ?_) | refine kj_icmp_ge X 34 dX3_held_7 (by decide) (fun c_7 => ?_) (fun c_7 => ?_)
      · omega
      refine kj_iload_n X dX3_held_10 rfl rfl ?_
      refine kj_aload_n X dX3_held_11 rfl rfl (by first | exact ⟨some _, rfl⟩ | exact ⟨none, rfl⟩ | exact ⟨_, rfl⟩) ?_
      refine kj_get X kc_X3 20 (by decide) q1573 (Or.inl rfl) dX3_held_12 (fun H h => h.own zM_o) rfl ?_
      refine kj_iload_n X dX3_held_15 rfl rfl ?_
      refine kj_ialdN X dX3_held_16 (fun H h => h.own km_20) (by omega) (by decide) ?_
      refine kj_iload_n X dX3_held_17 rfl rfl ?_
      refine kj_icmp_ne X 25 dX3_held_18 (by decide) (fun c_18 => ?_) (fun c_18 => ?_)
      · rw [if_neg (by rw [decide_eq_false c_18]; decide)] at nxt
        refine kj_iconst (v := nI 0) X dX3_held_25 (by decide) ?_
        first | refine kj_iaddN X dX3_held_26 ?_ | refine kj_iadd X dX3_held_26 ?_
        refine kj_istore_n (lv' := [_, _, _, _]) X dX3_held_27 rfl (by decide) (by intro w h _; cases h <;> first | rfl | exact kr_cat _) rfl ?_
        refine kj_iinc (lv' := [_, _, _, _]) (w := nI (j + 1)) X dX3_held_28 (by decide) rfl (by intro w h _; cases h <;> first | rfl | exact kr_cat _) (nI_1 j) rfl ?_
        refine kj_goto X 4 dX3_held_31 (by decide) ?_
        exact nxt
      · rw [if_pos (by rw [decide_eq_true c_18])] at nxt
        refine kj_iconst (v := nI 1) X dX3_held_21 (by decide) ?_
        refine kj_goto X 26 dX3_held_22 (by decide) ?_
        first | refine kj_iaddN X dX3_held_26 ?_ | refine kj_iadd X dX3_held_26 ?_
        refine kj_istore_n (lv' := [_, _, _, _]) X dX3_held_27 rfl (by decide) (by intro w h _; cases h <;> first | rfl | exact kr_cat _) rfl ?_
        refine kj_iinc (lv' := [_, _, _, _]) (w := nI (j + 1)) X dX3_held_28 (by decide) rfl (by intro w h _; cases h <;> first | rfl | exact kr_cat _) (nI_1 j) rfl ?_
        refine kj_goto X 4 dX3_held_31 (by decide) ?_
        exact nxt
  exact loop 6 0 (by decide)
theorem ct_X3_present (hF : kr_F G l) {n : Nat} (hn : mA M 28 0 = nI n) (hn10 : n ≤ 10) (k : Int32) : kr_T G l yX3_present (ws_ yX3_present cX3_present 4 (Option.some Jvm.ClassFile.FieldType.int)) 1 40 [.ref (gA g (100, 0)), .int k] (kM G g S Z M) 0 0 (fun v H => v = some (.int (nI (mPres M k n))) ∧ kM G g S Z M H) kr_no := by
  refine kr_T.of (by decide +kernel) hF (by simp [Value.category]) (Nat.le_of_ble_eq_true rfl) (fun x hx X => ?_)
  refine kj_iconst (v := nI 0) X dX3_present_0 (by decide) ?_
  refine kj_istore_n (lv' := [_, _, _, _]) X dX3_present_1 rfl (by decide) (by intro w h _; cases h <;> first | rfl | exact kr_cat _) rfl ?_
  refine kj_iconst (v := nI 0) X dX3_present_2 (by decide) ?_
  refine kj_istore_n (lv' := [_, _, _, _]) X dX3_present_3 rfl (by decide) (by intro w h _; cases h <;> first | rfl | exact kr_cat _) rfl ?_
  have loop : ∀ m j, j + m = n → kr_J G x 4 (kr_Q G x 0 0 (fun v H => v = some (.int (nI (mPres M k n))) ∧ kM G g S Z M H) kr_no) (kM G g S Z M) 0 0 4 [some (.ref (gA g (100, 0))), some (.int k), some (.int (nI (mPres M k j))), some (.int (nI j))] [] := by
    intro m
    induction m with
    | zero =>
      intro j hj
      obtain rfl : j = n := by omega
      refine kj_iload_n X dX3_present_4 rfl rfl ?_
      refine kj_aload_n X dX3_present_5 rfl rfl (by first | exact ⟨some _, rfl⟩ | exact ⟨none, rfl⟩ | exact ⟨_, rfl⟩) ?_
      refine kj_get X kc_X3 28 (by decide) q1581 (Or.inl rfl) dX3_present_6 (fun H h => h.own zM_o) rfl ?_
      rw [hn]
      first | refine kj_icmp_geN X 36 dX3_present_9 (by decide) (by omega) (by omega) (fun c_9 => ?_) (fun c_9 => ?_) | refine kj_icmp_ge X 36 dX3_present_9 (by decide) (fun c_9 => ?_) (fun c_9 => ?_)
      · refine kj_iload_n X dX3_present_36 rfl rfl ?_
        exact kj_iret X dX3_present_37 (by omega) (by omega) (fun H h => ⟨rfl, h⟩)
      · omega
    | succ m ih =>
      intro j hj
      have es : mPres M k (j + 1) = mPres M k j + (if decide (mA M 24 j = k) then 1 else 0) := kr_cnt _ j
      have nxt := ih (j + 1) (by omega)
      rw [es] at nxt
      refine kj_iload_n X dX3_present_4 rfl rfl ?_
      refine kj_aload_n X dX3_present_5 rfl rfl (by first | exact ⟨some _, rfl⟩ | exact ⟨none, rfl⟩ | exact ⟨_, rfl⟩) ?_
      refine kj_get X kc_X3 28 (by decide) q1581 (Or.inl rfl) dX3_present_6 (fun H h => h.own zM_o) rfl ?_
      rw [hn]
      first | refine kj_icmp_geN X 36 dX3_present_9 (by decide) (by omega) (by omega) (fun c_9 => ?_) (fun c_9 => ?_) | refine kj_icmp_ge X 36 dX3_present_9 (by decide) (fun c_9 => ?_) (fun c_9 => ?_)
      · omega
      refine kj_iload_n X dX3_present_12 rfl rfl ?_
      refine kj_aload_n X dX3_present_13 rfl rfl (by first | exact ⟨some _, rfl⟩ | exact ⟨none, rfl⟩ | exact ⟨_, rfl⟩) ?_
      refine kj_get X kc_X3 24 (by decide) q1577 (Or.inl rfl) dX3_present_14 (fun H h => h.own zM_o) rfl ?_
      refine kj_iload_n X dX3_present_17 rfl rfl ?_
      refine kj_ialdN X dX3_present_18 (fun H h => h.own km_24) (by omega) (by decide) ?_
      refine kj_iload_n X dX3_present_19 rfl rfl ?_
      refine kj_icmp_ne X 27 dX3_present_20 (by decide) (fun c_20 => ?_) (fun c_20 => ?_)
      · rw [if_neg (by rw [decide_eq_false c_20]; decide)] at nxt
        refine kj_iconst (v := nI 0) X dX3_present_27 (by decide) ?_
        first | refine kj_iaddN X dX3_present_28 ?_ | refine kj_iadd X dX3_present_28 ?_
        refine kj_istore_n (lv' := [_, _, _, _]) X dX3_present_29 rfl (by decide) (by intro w h _; cases h <;> first | rfl | exact kr_cat _) rfl ?_
        refine kj_iinc (lv' := [_, _, _, _]) (w := nI (j + 1)) X dX3_present_30 (by decide) rfl (by intro w h _; cases h <;> first | rfl | exact kr_cat _) (nI_1 j) rfl ?_
        refine kj_goto X 4 dX3_present_33 (by decide) ?_
        exact nxt
      · rw [if_pos (by rw [decide_eq_true c_20])] at nxt
        refine kj_iconst (v := nI 1) X dX3_present_23 (by decide) ?_
        refine kj_goto X 28 dX3_present_24 (by decide) ?_
        first | refine kj_iaddN X dX3_present_28 ?_ | refine kj_iadd X dX3_present_28 ?_
        refine kj_istore_n (lv' := [_, _, _, _]) X dX3_present_29 rfl (by decide) (by intro w h _; cases h <;> first | rfl | exact kr_cat _) rfl ?_
        refine kj_iinc (lv' := [_, _, _, _]) (w := nI (j + 1)) X dX3_present_30 (by decide) rfl (by intro w h _; cases h <;> first | rfl | exact kr_cat _) (nI_1 j) rfl ?_
        refine kj_goto X 4 dX3_present_33 (by decide) ?_
        exact nxt
  exact loop n 0 (by omega)
theorem ct_X3_sees (hF : kr_F G l) {v s : Nat} (hv : v < 10) (hs : s < 100) (k : Int32) : kr_T G l yX3_sees (ws_ yX3_sees cX3_sees 5 (Option.some Jvm.ClassFile.FieldType.boolean)) 1 40 [.ref (gA g (100, 0)), .int (nI v), .int k, .int (nI s)] (kM G g S Z M) 0 0 (fun w H => w = some (.int (kr_b (decide (mA M 24 v = k ∧ (mA M 23 (100 * v + s) = 0 ∨ mA M 25 (100 * v + s) ≠ 0))))) ∧ kM G g S Z M H) kr_no := by
  refine kr_T.of (by decide +kernel) hF (by simp [Value.category]) (Nat.le_of_ble_eq_true rfl) (fun x hx X => ?_)
  refine kj_bipush (v := nI 100) X dX3_sees_0 (by decide) ?_
  refine kj_iload_n X dX3_sees_2 rfl rfl ?_
  first | refine kj_imulN X dX3_sees_3 ?_ | refine kj_imul X dX3_sees_3 ?_
  refine kj_iload_n X dX3_sees_4 rfl rfl ?_
  first | refine kj_iaddN X dX3_sees_5 ?_ | refine kj_iadd X dX3_sees_5 ?_
  refine kj_istore (lv' := [_, _, _, _, _]) X dX3_sees_6 (by decide) (by intro w h _; cases h <;> first | rfl | exact kr_cat _) rfl ?_
  refine kj_aload_n X dX3_sees_8 rfl rfl (by first | exact ⟨some _, rfl⟩ | exact ⟨none, rfl⟩ | exact ⟨_, rfl⟩) ?_
  refine kj_get X kc_X3 24 (by decide) q1577 (Or.inl rfl) dX3_sees_9 (fun H h => h.own zM_o) rfl ?_
  refine kj_iload_n X dX3_sees_12 rfl rfl ?_
  refine kj_ialdN X dX3_sees_13 (fun H h => h.own km_24) (by omega) (by decide) ?_
  refine kj_iload_n X dX3_sees_14 rfl rfl ?_
  refine kj_icmp_ne X 42 dX3_sees_15 (by decide) (fun c_15 => ?_) (fun c_15 => ?_)
  · refine kj_iconst (v := nI 0) X dX3_sees_42 (by decide) ?_
    exact kj_zret X rfl dX3_sees_43 (by omega) (by omega) (fun H h => ⟨by rw [decide_eq_false (fun z => c_15 z.1)]; rfl, h⟩)
  refine kj_aload_n X dX3_sees_18 rfl rfl (by first | exact ⟨some _, rfl⟩ | exact ⟨none, rfl⟩ | exact ⟨_, rfl⟩) ?_
  refine kj_get X kc_X3 23 (by decide) q1576 (Or.inl rfl) dX3_sees_19 (fun H h => h.own zM_o) rfl ?_
  refine kj_iload X dX3_sees_22 rfl ?_
  refine kj_ialdN X dX3_sees_24 (fun H h => h.own km_23) (by omega) (by decide) ?_
  refine kj_if_eq X 38 dX3_sees_25 (by decide) (fun c_25 => ?_) (fun c_25 => ?_)
  · refine kj_iconst (v := nI 1) X dX3_sees_38 (by decide) ?_
    refine kj_goto X 43 dX3_sees_39 (by decide) ?_
    exact kj_zret X rfl dX3_sees_43 (by omega) (by omega) (fun H h => ⟨by rw [decide_eq_true ⟨c_15, Or.inl c_25⟩]; rfl, h⟩)
  refine kj_aload_n X dX3_sees_28 rfl rfl (by first | exact ⟨some _, rfl⟩ | exact ⟨none, rfl⟩ | exact ⟨_, rfl⟩) ?_
  refine kj_get X kc_X3 25 (by decide) q1578 (Or.inl rfl) dX3_sees_29 (fun H h => h.own zM_o) rfl ?_
  refine kj_iload X dX3_sees_32 rfl ?_
  refine kj_zaldN X dX3_sees_34 (fun H h => h.own km_25) (by omega) (by decide) ?_
  refine kj_if_eq X 42 dX3_sees_35 (by decide) (fun c_35 => ?_) (fun c_35 => ?_)
  · refine kj_iconst (v := nI 0) X dX3_sees_42 (by decide) ?_
    exact kj_zret X rfl dX3_sees_43 (by omega) (by omega) (fun H h => ⟨by rw [decide_eq_false (fun z => z.2.elim c_25 (fun y => y c_35))]; rfl, h⟩)
  · refine kj_iconst (v := nI 1) X dX3_sees_38 (by decide) ?_
    refine kj_goto X 43 dX3_sees_39 (by decide) ?_
    exact kj_zret X rfl dX3_sees_43 (by omega) (by omega) (fun H h => ⟨by rw [decide_eq_true ⟨c_15, Or.inr c_35⟩]; rfl, h⟩)
end
