/-! THE TESTS: the static methods behind the lambdas; counting -/
set_option maxRecDepth 100000
section
variable {G : kr_G} {l : Launch} {g g' : kr_Gh} {S S' : kr_St} {Z : kr_Ro → Option kr_AE}
theorem kc_Zt {q : Nat} : kr_cells G g S Z (40, q) = Z (40, q) := kc_Z (r := (40, q)) (by show 18 ≤ 40; decide)
theorem kc_upt {q : Nat} {e : Option kr_AE} : kr_up (kr_cells G g S Z) (40, q) e = kr_cells G g S (kr_up Z (40, q) e) := kc_up (r := (40, q)) (by show 18 ≤ 40; decide)
/-- a passing thing is dropped -/
theorem kr_S.tidy {H : Heap} {q : Nat} {e : Option kr_AE} (h : kr_S G (gA g) (kr_cells G g S (kr_up Z (40, q) e)) H) (hq : Z (40, q) = none) : kr_S G (gA g) (kr_cells G g S Z) H := by
  rw [← kc_upt] at h
  refine h.drop (fun i hi => ?_) (fun i hi => ?_)
  · rw [kr_up_n (fun z => hi (by rw [z]))]
  · by_cases e : i = (40, q)
    · rw [e, kc_Zt, hq]
      exact Or.inl rfl
    · rw [kr_up_n e]
      exact Or.inr rfl
theorem kr_S.injk {H : Heap} (h : kr_S G (gA g) (kr_cells G g S Z) H) {i j : Nat} (hi : i < sN S 1 0) (hj : j < sN S 1 0) (e : gA g (5, i) = gA g (5, j)) : i = j := by
  have h1 := h.inj (i := (5, i)) (j := (5, j)) (by rw [kc_5 hi]; exact fun z => by cases z) (by rw [kc_5 hj]; exact fun z => by cases z) e
  exact (Prod.mk.inj h1).2
theorem kr_S.isk {H : Heap} (h : kr_S G (gA g) (kr_cells G g S Z) H) {n k : Nat} (hn : n ≤ sN S 1 0) (hk : k < sN S 1 0) : kr_op (fun i => gA g (5, i)) n = some (gA g (5, k)) ↔ n = k + 1 := by
  cases n with
  | zero => simp
  | succ j =>
    constructor
    · intro e
      rw [h.injk (by omega) hk (Option.some.inj e)]
    · intro e
      obtain rfl : j = k := by omega
      rfl
def fHold (S : kr_St) (p d : Nat) : Bool := decide (sN S 9 d = p + 1)
def fHeld (S : kr_St) (d : Nat) : Bool := decide (sN S 9 d ≠ 0)
def fQueue (S : kr_St) (p d : Nat) : Bool := decide (p ∈ sL S 3 d)
def fAt (S : kr_St) (k v : Nat) : Bool := decide (sN S 10 v = k + 1)
def fSee (S : kr_St) (k s v : Nat) : Bool := decide (sN S 10 v = k + 1) && oWould S v s
/-- take -/
theorem ct_X1_lambda_take_3 (hF : kr_F G l) {p d : Nat} (hp : sN S 15 p = 1) (hd : d < sN S 14 0) (hho : ∀ j, sN S 9 d = j + 1 → sN S 15 j = 1) : kr_T G l yX1_lambda_take_3 (ws_ yX1_lambda_take_3 cX1_lambda_take_3 2 (Option.some Jvm.ClassFile.FieldType.boolean)) 1 20 [.ref (gA g (7, p)), .ref (gA g (11, d))] (kr_S G (gA g) (kr_cells G g S Z)) 0 0 (fun v H => v = some (.int (kr_b (fHold S p d))) ∧ kr_S G (gA g) (kr_cells G g S Z) H) kr_no := by
  refine kr_T.of (by decide +kernel) hF (by simp [Value.category]) (Nat.le_of_ble_eq_true rfl) (fun x hx X => ?_)
  refine kj_pure (fun H h => kr_S.isp h hho hp) (fun hiff => ?_)
  refine kj_aload_n X dX1_lambda_take_3_0 rfl rfl (by first | exact ⟨some _, rfl⟩ | exact ⟨none, rfl⟩ | exact ⟨_, rfl⟩) ?_
  refine kj_getN X kc_X2 1 (by decide) q138 rfl dX1_lambda_take_3_1 (fun H h => h.own (kc_11 hd)) rfl ?_
  refine kj_aload_n X dX1_lambda_take_3_4 rfl rfl (by first | exact ⟨some _, rfl⟩ | exact ⟨none, rfl⟩ | exact ⟨_, rfl⟩) ?_
  refine kj_acmp_ne X (by first | exact Eq.refl (va_rf (some _)) | exact Eq.refl (va_rf none) | exact Eq.refl (va_rf _)) (by first | exact Eq.refl (va_rf (some _)) | exact Eq.refl (va_rf none) | exact Eq.refl (va_rf _)) 12 dX1_lambda_take_3_5 (by decide) (fun c_5 => ?_) (fun c_5 => ?_)
  · refine kj_iconst (v := 0) X dX1_lambda_take_3_12 (by decide) ?_
    exact kj_zret X rfl dX1_lambda_take_3_13 (by omega) (by omega) (fun H h => ⟨by rw [show fHold S p d = false from decide_eq_false (fun z => c_5 (hiff.mpr z))]; rfl, h⟩)
  · refine kj_iconst (v := 1) X dX1_lambda_take_3_8 (by decide) ?_
    refine kj_goto X 13 dX1_lambda_take_3_9 (by decide) ?_
    exact kj_zret X rfl dX1_lambda_take_3_13 (by omega) (by omega) (fun H h => ⟨by rw [show fHold S p d = true from decide_eq_true (hiff.mp c_5)]; rfl, h⟩)
/-- stop -/
theorem ct_X1_lambda_stop_0 (hF : kr_F G l) {p d : Nat} (hp : sN S 15 p = 1) (hd : d < sN S 14 0) (hho : ∀ j, sN S 9 d = j + 1 → sN S 15 j = 1) : kr_T G l yX1_lambda_stop_0 (ws_ yX1_lambda_stop_0 cX1_lambda_stop_0 2 (Option.some Jvm.ClassFile.FieldType.boolean)) 1 20 [.ref (gA g (7, p)), .ref (gA g (11, d))] (kr_S G (gA g) (kr_cells G g S Z)) 0 0 (fun v H => v = some (.int (kr_b (fHold S p d))) ∧ kr_S G (gA g) (kr_cells G g S Z) H) kr_no := by
  refine kr_T.of (by decide +kernel) hF (by simp [Value.category]) (Nat.le_of_ble_eq_true rfl) (fun x hx X => ?_)
  refine kj_pure (fun H h => kr_S.isp h hho hp) (fun hiff => ?_)
  refine kj_aload_n X dX1_lambda_stop_0_0 rfl rfl (by first | exact ⟨some _, rfl⟩ | exact ⟨none, rfl⟩ | exact ⟨_, rfl⟩) ?_
  refine kj_getN X kc_X2 1 (by decide) q138 rfl dX1_lambda_stop_0_1 (fun H h => h.own (kc_11 hd)) rfl ?_
  refine kj_aload_n X dX1_lambda_stop_0_4 rfl rfl (by first | exact ⟨some _, rfl⟩ | exact ⟨none, rfl⟩ | exact ⟨_, rfl⟩) ?_
  refine kj_acmp_ne X (by first | exact Eq.refl (va_rf (some _)) | exact Eq.refl (va_rf none) | exact Eq.refl (va_rf _)) (by first | exact Eq.refl (va_rf (some _)) | exact Eq.refl (va_rf none) | exact Eq.refl (va_rf _)) 12 dX1_lambda_stop_0_5 (by decide) (fun c_5 => ?_) (fun c_5 => ?_)
  · refine kj_iconst (v := 0) X dX1_lambda_stop_0_12 (by decide) ?_
    exact kj_zret X rfl dX1_lambda_stop_0_13 (by omega) (by omega) (fun H h => ⟨by rw [show fHold S p d = false from decide_eq_false (fun z => c_5 (hiff.mpr z))]; rfl, h⟩)
  · refine kj_iconst (v := 1) X dX1_lambda_stop_0_8 (by decide) ?_
    refine kj_goto X 13 dX1_lambda_stop_0_9 (by decide) ?_
    exact kj_zret X rfl dX1_lambda_stop_0_13 (by omega) (by omega) (fun H h => ⟨by rw [show fHold S p d = true from decide_eq_true (hiff.mp c_5)]; rfl, h⟩)
/-- isSoundPlayer -/
theorem ct_X1_lambda_isSoundPlayer_6 (hF : kr_F G l) {p d : Nat} (hp : sN S 15 p = 1) (hd : d < sN S 14 0) (hho : ∀ j, sN S 9 d = j + 1 → sN S 15 j = 1) : kr_T G l yX1_lambda_isSoundPlayer_6 (ws_ yX1_lambda_isSoundPlayer_6 cX1_lambda_isSoundPlayer_6 2 (Option.some Jvm.ClassFile.FieldType.boolean)) 1 20 [.ref (gA g (7, p)), .ref (gA g (11, d))] (kr_S G (gA g) (kr_cells G g S Z)) 0 0 (fun v H => v = some (.int (kr_b (fHold S p d))) ∧ kr_S G (gA g) (kr_cells G g S Z) H) kr_no := by
  refine kr_T.of (by decide +kernel) hF (by simp [Value.category]) (Nat.le_of_ble_eq_true rfl) (fun x hx X => ?_)
  refine kj_pure (fun H h => kr_S.isp h hho hp) (fun hiff => ?_)
  refine kj_aload_n X dX1_lambda_isSoundPlayer_6_0 rfl rfl (by first | exact ⟨some _, rfl⟩ | exact ⟨none, rfl⟩ | exact ⟨_, rfl⟩) ?_
  refine kj_getN X kc_X2 1 (by decide) q138 rfl dX1_lambda_isSoundPlayer_6_1 (fun H h => h.own (kc_11 hd)) rfl ?_
  refine kj_aload_n X dX1_lambda_isSoundPlayer_6_4 rfl rfl (by first | exact ⟨some _, rfl⟩ | exact ⟨none, rfl⟩ | exact ⟨_, rfl⟩) ?_
  refine kj_acmp_ne X (by first | exact Eq.refl (va_rf (some _)) | exact Eq.refl (va_rf none) | exact Eq.refl (va_rf _)) (by first | exact Eq.refl (va_rf (some _)) | exact Eq.refl (va_rf none) | exact Eq.refl (va_rf _)) 12 dX1_lambda_isSoundPlayer_6_5 (by decide) (fun c_5 => ?_) (fun c_5 => ?_)
  · refine kj_iconst (v := 0) X dX1_lambda_isSoundPlayer_6_12 (by decide) ?_
    exact kj_zret X rfl dX1_lambda_isSoundPlayer_6_13 (by omega) (by omega) (fun H h => ⟨by rw [show fHold S p d = false from decide_eq_false (fun z => c_5 (hiff.mpr z))]; rfl, h⟩)
  · refine kj_iconst (v := 1) X dX1_lambda_isSoundPlayer_6_8 (by decide) ?_
    refine kj_goto X 13 dX1_lambda_isSoundPlayer_6_9 (by decide) ?_
    exact kj_zret X rfl dX1_lambda_isSoundPlayer_6_13 (by omega) (by omega) (fun H h => ⟨by rw [show fHold S p d = true from decide_eq_true (hiff.mp c_5)]; rfl, h⟩)
/-- show -/
theorem ct_X1_lambda_show_1 (hF : kr_F G l) {k v : Nat} (hk : k < sN S 1 0) (hv : v < sN S 2 0) (hat : sN S 10 v ≤ sN S 1 0) : kr_T G l yX1_lambda_show_1 (ws_ yX1_lambda_show_1 cX1_lambda_show_1 2 (Option.some Jvm.ClassFile.FieldType.boolean)) 1 20 [.ref (gA g (5, k)), .ref (gA g (13, v))] (kr_S G (gA g) (kr_cells G g S Z)) 0 0 (fun w H => w = some (.int (kr_b (fAt S k v))) ∧ kr_S G (gA g) (kr_cells G g S Z) H) kr_no := by
  refine kr_T.of (by decide +kernel) hF (by simp [Value.category]) (Nat.le_of_ble_eq_true rfl) (fun x hx X => ?_)
  refine kj_pure (fun H h => kr_S.isk h (n := sN S 10 v) (by omega) hk) (fun hiff => ?_)
  refine kj_aload_n X dX1_lambda_show_1_0 rfl rfl (by first | exact ⟨some _, rfl⟩ | exact ⟨none, rfl⟩ | exact ⟨_, rfl⟩) ?_
  refine kj_getN X kc_X18 3 (by decide) q1482 rfl dX1_lambda_show_1_1 (fun H h => h.own (kc_13 hv)) rfl ?_
  refine kj_aload_n X dX1_lambda_show_1_4 rfl rfl (by first | exact ⟨some _, rfl⟩ | exact ⟨none, rfl⟩ | exact ⟨_, rfl⟩) ?_
  refine kj_acmp_ne X (by first | exact Eq.refl (va_rf (some _)) | exact Eq.refl (va_rf none) | exact Eq.refl (va_rf _)) (by first | exact Eq.refl (va_rf (some _)) | exact Eq.refl (va_rf none) | exact Eq.refl (va_rf _)) 12 dX1_lambda_show_1_5 (by decide) (fun c_5 => ?_) (fun c_5 => ?_)
  · refine kj_iconst (v := 0) X dX1_lambda_show_1_12 (by decide) ?_
    exact kj_zret X rfl dX1_lambda_show_1_13 (by omega) (by omega) (fun H h => ⟨by rw [show fAt S k v = false from decide_eq_false (fun z => c_5 (hiff.mpr z))]; rfl, h⟩)
  · refine kj_iconst (v := 1) X dX1_lambda_show_1_8 (by decide) ?_
    refine kj_goto X 13 dX1_lambda_show_1_9 (by decide) ?_
    exact kj_zret X rfl dX1_lambda_show_1_13 (by omega) (by omega) (fun H h => ⟨by rw [show fAt S k v = true from decide_eq_true (hiff.mp c_5)]; rfl, h⟩)
/-- IfAlone -/
theorem ct_X11_lambda_act_0 (hF : kr_F G l) {k v : Nat} (hk : k < sN S 1 0) (hv : v < sN S 2 0) (hat : sN S 10 v ≤ sN S 1 0) : kr_T G l yX11_lambda_act_0 (ws_ yX11_lambda_act_0 cX11_lambda_act_0 2 (Option.some Jvm.ClassFile.FieldType.boolean)) 1 20 [.ref (gA g (5, k)), .ref (gA g (13, v))] (kr_S G (gA g) (kr_cells G g S Z)) 0 0 (fun w H => w = some (.int (kr_b (fAt S k v))) ∧ kr_S G (gA g) (kr_cells G g S Z) H) kr_no := by
  refine kr_T.of (by decide +kernel) hF (by simp [Value.category]) (Nat.le_of_ble_eq_true rfl) (fun x hx X => ?_)
  refine kj_pure (fun H h => kr_S.isk h (n := sN S 10 v) (by omega) hk) (fun hiff => ?_)
  refine kj_aload_n X dX11_lambda_act_0_0 rfl rfl (by first | exact ⟨some _, rfl⟩ | exact ⟨none, rfl⟩ | exact ⟨_, rfl⟩) ?_
  refine kj_getN X kc_X18 3 (by decide) q1481 rfl dX11_lambda_act_0_1 (fun H h => h.own (kc_13 hv)) rfl ?_
  refine kj_aload_n X dX11_lambda_act_0_4 rfl rfl (by first | exact ⟨some _, rfl⟩ | exact ⟨none, rfl⟩ | exact ⟨_, rfl⟩) ?_
  refine kj_acmp_ne X (by first | exact Eq.refl (va_rf (some _)) | exact Eq.refl (va_rf none) | exact Eq.refl (va_rf _)) (by first | exact Eq.refl (va_rf (some _)) | exact Eq.refl (va_rf none) | exact Eq.refl (va_rf _)) 12 dX11_lambda_act_0_5 (by decide) (fun c_5 => ?_) (fun c_5 => ?_)
  · refine kj_iconst (v := 0) X dX11_lambda_act_0_12 (by decide) ?_
    exact kj_zret X rfl dX11_lambda_act_0_13 (by omega) (by omega) (fun H h => ⟨by rw [show fAt S k v = false from decide_eq_false (fun z => c_5 (hiff.mpr z))]; rfl, h⟩)
  · refine kj_iconst (v := 1) X dX11_lambda_act_0_8 (by decide) ?_
    refine kj_goto X 13 dX11_lambda_act_0_9 (by decide) ?_
    exact kj_zret X rfl dX11_lambda_act_0_13 (by omega) (by omega) (fun H h => ⟨by rw [show fAt S k v = true from decide_eq_true (hiff.mp c_5)]; rfl, h⟩)
theorem ct_X1_lambda_heldShare_4 (hF : kr_F G l) {d : Nat} (hd : d < sN S 14 0) : kr_T G l yX1_lambda_heldShare_4 (ws_ yX1_lambda_heldShare_4 cX1_lambda_heldShare_4 1 (Option.some Jvm.ClassFile.FieldType.boolean)) 1 20 [.ref (gA g (11, d))] (kr_S G (gA g) (kr_cells G g S Z)) 0 0 (fun v H => v = some (.int (kr_b (fHeld S d))) ∧ kr_S G (gA g) (kr_cells G g S Z) H) kr_no := by
  refine kr_T.of (by decide +kernel) hF (by simp [Value.category]) (Nat.le_of_ble_eq_true rfl) (fun x hx X => ?_)
  refine kj_aload_n X dX1_lambda_heldShare_4_0 rfl rfl (by first | exact ⟨some _, rfl⟩ | exact ⟨none, rfl⟩ | exact ⟨_, rfl⟩) ?_
  refine kj_getN X kc_X2 1 (by decide) q138 rfl dX1_lambda_heldShare_4_1 (fun H h => h.own (kc_11 hd)) rfl ?_
  refine kj_ifnull X (by first | exact Eq.refl (va_rf (some _)) | exact Eq.refl (va_rf none) | exact Eq.refl (va_rf _)) 11 dX1_lambda_heldShare_4_4 (by decide) (fun c_4 => ?_) (fun a_4 c_4 => ?_)
  · have e : sN S 9 d = 0 := by
      cases h : sN S 9 d with
      | zero => rfl
      | succ j => rw [h] at c_4; cases c_4
    refine kj_iconst (v := 0) X dX1_lambda_heldShare_4_11 (by decide) ?_
    exact kj_zret X rfl dX1_lambda_heldShare_4_12 (by omega) (by omega) (fun H h => ⟨by simp [kr_b, fHeld, e], h⟩)
  · have e : sN S 9 d ≠ 0 := fun h => by rw [h] at c_4; cases c_4
    refine kj_iconst (v := 1) X dX1_lambda_heldShare_4_7 (by decide) ?_
    refine kj_goto X 12 dX1_lambda_heldShare_4_8 (by decide) ?_
    exact kj_zret X rfl dX1_lambda_heldShare_4_12 (by omega) (by omega) (fun H h => ⟨by simp [kr_b, fHeld, e], h⟩)
theorem ct_X1_lambda_isSoundPlayer_5 (hF : kr_F G l) {p d : Nat} (hp : sN S 15 p = 1) (hd : d < sN S 14 0) (hpx : ∀ q ∈ sL S 3 d, sN S 15 q = 1) : kr_T G l yX1_lambda_isSoundPlayer_5 (ws_ yX1_lambda_isSoundPlayer_5 cX1_lambda_isSoundPlayer_5 2 (Option.some Jvm.ClassFile.FieldType.boolean)) 5 350 [.ref (gA g (7, p)), .ref (gA g (11, d))] (kr_S G (gA g) (kr_cells G g S Z)) 0 0 (fun v H => v = some (.int (kr_b (fQueue S p d))) ∧ kr_S G (gA g) (kr_cells G g S Z) H) kr_no := by
  refine kr_T.of (by decide +kernel) hF (by simp [Value.category]) (Nat.le_of_ble_eq_true rfl) (fun x hx X => ?_)
  refine kj_pure (fun H h => (kr_map_mem h hpx hp).1) (fun hm => ?_)
  refine kj_aload_n X dX1_lambda_isSoundPlayer_5_0 rfl rfl (by first | exact ⟨some _, rfl⟩ | exact ⟨none, rfl⟩ | exact ⟨_, rfl⟩) ?_
  refine kj_getN X kc_X2 0 (by decide) q135 rfl dX1_lambda_isSoundPlayer_5_1 (fun H h => h.own (kc_11 hd)) rfl ?_
  refine kj_aload_n X dX1_lambda_isSoundPlayer_5_4 rfl rfl (by first | exact ⟨some _, rfl⟩ | exact ⟨none, rfl⟩ | exact ⟨_, rfl⟩) ?_
  refine kj_callF X 1 (ct_J2_contains X.F (kc_12 hd) (kc_7 hp)) q412 q415 q417 q46 q419 q414 q413 q418 q416 q148 ⟨by decide, by decide, by decide +kernel⟩ dX1_lambda_isSoundPlayer_5_5 rfl rfl (by first | exact Nat.le_of_ble_eq_true rfl | simp [kr_cat, Value.category]) ⟨Nat.le_of_ble_eq_true rfl, Nat.le_of_ble_eq_true rfl⟩ ⟨by dsimp only; omega, by dsimp only; omega⟩ kc_J2.1 (fun H h => h.list (kc_12 hd)) (fun E => kjx_no) (fun v_5 => ?_)
  refine kj_and (fun e_5 => ?_)
  subst e_5
  exact kj_zret X (by first | rfl | exact kr_narb _) dX1_lambda_isSoundPlayer_5_10 (by omega) (by omega) (fun H h => ⟨by simp only [fQueue, hm], h⟩)
theorem ct_X1_lambda_show_2 (hF : kr_F G l) {k s v : Nat} (hk : k < sN S 1 0) (hv : v < sN S 2 0) (hat : sN S 10 v ≤ sN S 1 0) (hs : s < 100) (hb : sN S (v + 100) s < 2) : kr_T G l yX1_lambda_show_2 (ws_ yX1_lambda_show_2 cX1_lambda_show_2 3 (Option.some Jvm.ClassFile.FieldType.boolean)) 2 60 [.ref (gA g (5, k)), .int (nI s), .ref (gA g (13, v))] (kr_S G (gA g) (kr_cells G g S Z)) 0 0 (fun w H => w = some (.int (kr_b (fSee S k s v))) ∧ kr_S G (gA g) (kr_cells G g S Z) H) kr_no := by
  refine kr_T.of (by decide +kernel) hF (by simp [Value.category]) (Nat.le_of_ble_eq_true rfl) (fun x hx X => ?_)
  refine kj_pure (fun H h => kr_S.isk h (n := sN S 10 v) (by omega) hk) (fun hiff => ?_)
  refine kj_aload_n X dX1_lambda_show_2_0 rfl rfl (by first | exact ⟨some _, rfl⟩ | exact ⟨none, rfl⟩ | exact ⟨_, rfl⟩) ?_
  refine kj_getN X kc_X18 3 (by decide) q1482 rfl dX1_lambda_show_2_1 (fun H h => h.own (kc_13 hv)) rfl ?_
  refine kj_aload_n X dX1_lambda_show_2_4 rfl rfl (by first | exact ⟨some _, rfl⟩ | exact ⟨none, rfl⟩ | exact ⟨_, rfl⟩) ?_
  refine kj_acmp_ne X (by first | exact Eq.refl (va_rf (some _)) | exact Eq.refl (va_rf none) | exact Eq.refl (va_rf _)) (by first | exact Eq.refl (va_rf (some _)) | exact Eq.refl (va_rf none) | exact Eq.refl (va_rf _)) 20 dX1_lambda_show_2_5 (by decide) (fun c_5 => ?_) (fun c_5 => ?_)
  · refine kj_iconst (v := 0) X dX1_lambda_show_2_20 (by decide) ?_
    exact kj_zret X rfl dX1_lambda_show_2_21 (by omega) (by omega) (fun H h => ⟨by unfold fSee; rw [decide_eq_false (fun z => c_5 (hiff.mpr z))]; rfl, h⟩)
  · refine kj_aload_n X dX1_lambda_show_2_8 rfl rfl (by first | exact ⟨some _, rfl⟩ | exact ⟨none, rfl⟩ | exact ⟨_, rfl⟩) ?_
    refine kj_iload_n X dX1_lambda_show_2_9 rfl rfl ?_
    refine kj_callV X 1 (ct_X18_wouldSee X.F hv hs hb) (lw_V q1381 q1382 q1383 q86 q1384) ⟨rfl, by decide, by decide, by decide +kernel⟩ dX1_lambda_show_2_10 rfl rfl (by first | exact Nat.le_of_ble_eq_true rfl | simp [kr_cat, Value.category]) ⟨Nat.le_of_ble_eq_true rfl, Nat.le_of_ble_eq_true rfl⟩ ⟨by dsimp only; omega, by dsimp only; omega⟩ kc_X18.1 (fun H h => h.rc (kc_13 hv)) (fun E => kjx_no) (fun v_10 => ?_)
    refine kj_and (fun e_10 => ?_)
    subst e_10
    refine kj_if_eq X 20 dX1_lambda_show_2_13 (by decide) (fun c_13 => ?_) (fun c_13 => ?_)
    · cases hw : oWould S v s with
      | false =>
        refine kj_iconst (v := 0) X dX1_lambda_show_2_20 (by decide) ?_
        exact kj_zret X rfl dX1_lambda_show_2_21 (by omega) (by omega) (fun H h => ⟨by unfold fSee; rw [decide_eq_true (hiff.mp c_5), hw]; rfl, h⟩)
      | true => rw [hw] at c_13; exact absurd c_13 (by decide)
    · cases hw : oWould S v s with
      | true =>
        refine kj_iconst (v := 1) X dX1_lambda_show_2_16 (by decide) ?_
        refine kj_goto X 21 dX1_lambda_show_2_17 (by decide) ?_
        exact kj_zret X rfl dX1_lambda_show_2_21 (by omega) (by omega) (fun H h => ⟨by unfold fSee; rw [decide_eq_true (hiff.mp c_5), hw]; rfl, h⟩)
      | false => rw [hw] at c_13; exact absurd rfl c_13
/-- a count of what a test takes; the test's call by a row of its own -/
theorem ct_X1_countDevices (hF : kr_F G l) (hg : kr_gok g) (hn : sN S 14 0 ≤ 100) {f : Nat → Bool} {tst : Nat}
    (hrow : ∀ (x : kr_X), kx_l x = l → kr_C G x yX1_countDevices cX1_countDevices 5 (some .int) { frames := 8, cells := 1, slots := 4, locals := 600 } [] → ∀ (Q : State → Prop) (lv : List (Option Value)) (n : Int32) (Z' : kr_Ro → Option kr_AE) (d : Nat), d < sN S 14 0 → (Z (40, tst) ≠ none → Z' (40, tst) = Z (40, tst)) →
      kr_J G x 5 Q (kr_S G (gA g) (kr_cells G g S Z')) 1 4 41 lv [.int (kr_b (f d)), .int n] → kr_J G x 5 Q (kr_S G (gA g) (kr_cells G g S Z')) 1 4 36 lv [.ref (gA g (11, d)), .ref tst, .int n]) :
    kr_T G l yX1_countDevices (ws_ yX1_countDevices cX1_countDevices 5 (Option.some Jvm.ClassFile.FieldType.int)) 8 600 [.ref (gA g (0, 0)), .ref tst] (kr_S G (gA g) (kr_cells G g S Z)) 1 4 (fun v H => v = some (.int (nI ((List.range (sN S 14 0)).countP f))) ∧ kr_S G (gA g) (kr_cells G g S Z) H) kr_no := by
  refine kr_T.of (by decide +kernel) hF (by simp [Value.category]) (Nat.le_of_ble_eq_true rfl) (fun x hx X => ?_)
  refine kj_iconst (v := 0) X dX1_countDevices_0 (by decide) ?_
  refine kj_istore_n (lv' := [_, _, _, _, _]) X dX1_countDevices_1 rfl (by decide) (by intro w h _; cases h <;> first | rfl | exact kr_cat _) rfl ?_
  refine kj_aload_n X dX1_countDevices_2 rfl rfl (by first | exact ⟨some _, rfl⟩ | exact ⟨none, rfl⟩ | exact ⟨_, rfl⟩) ?_
  refine kj_get X kc_X1 2 (by decide) q230 (Or.inl rfl) dX1_countDevices_3 (fun H h => h.own (kc_kio)) rfl ?_
  refine kj_callF X 0 (ct_J2_iterator X.F hg.1 (Or.inl ⟨_, kc_l2⟩)) q262 q265 q267 q46 q269 q264 q263 q268 q266 q148 ⟨by decide, by decide, by decide +kernel⟩ dX1_countDevices_6 rfl rfl (by first | exact Nat.le_of_ble_eq_true rfl | simp [kr_cat, Value.category]) ⟨Nat.le_of_ble_eq_true rfl, Nat.le_of_ble_eq_true rfl⟩ ⟨by dsimp only; omega, by dsimp only; omega⟩ kc_J2.1 (fun H h => h.list (kc_l2)) (fun E => kjx_no) (fun v_6 => ?_)
  refine kj_open (fun q hq => ?_)
  obtain ⟨hv, hq0⟩ := hq
  subst hv
  rw [kc_Zt] at hq0
  rw [kc_upt]
  rw [show (some (Value.ref q)).toList = [Value.ref (gA g (40, q))] from by rw [(hg.1 q).1]; rfl]
  have hlen : ((List.range (sN S 14 0)).map fun i => gA g (11, i)).length = sN S 14 0 := by rw [List.length_map, List.length_range]
  refine kj_astore_n (lv' := [_, _, _, _, _]) X dX1_countDevices_11 rfl (by decide) (by intro w h _; cases h <;> first | rfl | exact kr_cat _) (by first | exact ⟨some _, rfl⟩ | exact ⟨none, rfl⟩ | exact ⟨_, rfl⟩) rfl ?_
  have loop : ∀ m k lr, k + m = sN S 14 0 → kr_J G x 5 (kr_Q G x 1 4 (fun v H => v = some (.int (nI ((List.range (sN S 14 0)).countP f))) ∧ kr_S G (gA g) (kr_cells G g S Z) H) kr_no) (kr_S G (gA g) (kr_cells G g S (kr_up Z (40, q) (some (kr_it (gA g) (1, 2) (nI k) lr (gM g (1, 2))))))) 1 4 12 [some (.ref (gA g (0, 0))), some (.ref tst), some (.int (nI ((List.range k).countP f))), some (.ref (gA g (40, q))), none] [] := by
    intro m
    induction m with
    | zero =>
      intro k lr hk
      have hj : kr_cells G g S (kr_up Z (40, q) (some (kr_it (gA g) (1, 2) (nI k) lr (gM g (1, 2))))) (40, q) = some (kr_it (gA g) (1, 2) (nI k) lr (gM g (1, 2))) := by rw [kc_Zt, kr_up_s]
      refine kj_aload_n X dX1_countDevices_12 rfl rfl (by first | exact ⟨some _, rfl⟩ | exact ⟨none, rfl⟩ | exact ⟨_, rfl⟩) ?_
      refine kj_callF X 0 (ct_J22_hasNext X.F (Or.inl ⟨_, kc_l2⟩) (by rw [hlen]; omega) (by rw [hlen]; omega) hj) q290 q294 q296 q81 q298 q292 q291 q297 q295 q293 ⟨by decide, by decide, by decide +kernel⟩ dX1_countDevices_13 rfl rfl (by first | exact Nat.le_of_ble_eq_true rfl | simp [kr_cat, Value.category]) ⟨Nat.le_of_ble_eq_true rfl, Nat.le_of_ble_eq_true rfl⟩ ⟨by dsimp only; omega, by dsimp only; omega⟩ kc_J22.1 (fun H h => h.rc (hj)) (fun E => kjx_no) (fun v_13 => ?_)
      refine kj_and (fun e_13 => ?_)
      subst e_13
      rw [hlen, show decide (k < sN S 14 0) = false from decide_eq_false (by omega)]
      refine kj_if_eq X 54 dX1_countDevices_18 (by decide) (fun c_18 => ?_) (fun c_18 => ?_)
      · obtain rfl : k = sN S 14 0 := by omega
        refine kj_iload_n X dX1_countDevices_54 rfl rfl ?_
        exact kj_iret X dX1_countDevices_55 (by omega) (by omega) (fun H h => ⟨rfl, h.tidy hq0⟩)
      · exact absurd rfl c_18
    | succ m ih =>
      intro k lr hk
      have hd : k < sN S 14 0 := by omega
      have hj : kr_cells G g S (kr_up Z (40, q) (some (kr_it (gA g) (1, 2) (nI k) lr (gM g (1, 2))))) (40, q) = some (kr_it (gA g) (1, 2) (nI k) lr (gM g (1, 2))) := by rw [kc_Zt, kr_up_s]
      refine kj_aload_n X dX1_countDevices_12 rfl rfl (by first | exact ⟨some _, rfl⟩ | exact ⟨none, rfl⟩ | exact ⟨_, rfl⟩) ?_
      refine kj_callF X 0 (ct_J22_hasNext X.F (Or.inl ⟨_, kc_l2⟩) (by rw [hlen]; omega) (by rw [hlen]; omega) hj) q290 q294 q296 q81 q298 q292 q291 q297 q295 q293 ⟨by decide, by decide, by decide +kernel⟩ dX1_countDevices_13 rfl rfl (by first | exact Nat.le_of_ble_eq_true rfl | simp [kr_cat, Value.category]) ⟨Nat.le_of_ble_eq_true rfl, Nat.le_of_ble_eq_true rfl⟩ ⟨by dsimp only; omega, by dsimp only; omega⟩ kc_J22.1 (fun H h => h.rc (hj)) (fun E => kjx_no) (fun v_13 => ?_)
      refine kj_and (fun e_13 => ?_)
      subst e_13
      rw [hlen, show decide (k < sN S 14 0) = true from decide_eq_true hd]
      refine kj_if_eq X 54 dX1_countDevices_18 (by decide) (fun c_18 => ?_) (fun c_18 => ?_)
      · exact absurd c_18 (by decide)
      refine kj_aload_n X dX1_countDevices_21 rfl rfl (by first | exact ⟨some _, rfl⟩ | exact ⟨none, rfl⟩ | exact ⟨_, rfl⟩) ?_
      refine kj_callF X 0 (ct_J22_next X.F kc_l2 (a := gA g (11, k)) (by rw [List.getElem?_map, List.getElem?_range hd]; rfl) hj) q300 q303 q305 q81 q307 q302 q301 q306 q304 q293 ⟨by decide, by decide, by decide +kernel⟩ dX1_countDevices_22 rfl rfl (by first | exact Nat.le_of_ble_eq_true rfl | simp [kr_cat, Value.category]) ⟨Nat.le_of_ble_eq_true rfl, Nat.le_of_ble_eq_true rfl⟩ ⟨by dsimp only; omega, by dsimp only; omega⟩ kc_J22.1 (fun H h => h.rc (hj)) (fun E => kjx_no) (fun v_22 => ?_)
      refine kj_and (fun e_22 => ?_)
      subst e_22
      rw [kc_upt, kr_up_up]
      refine kj_ccastR X kc_X2.1 q126 dX1_countDevices_27 (fun H h => h.at (kc_11 hd)) ?_
      refine kj_astore (lv' := [_, _, _, _, _]) X dX1_countDevices_30 (by decide) (by intro w h _; cases h <;> first | rfl | exact kr_cat _) (by first | exact ⟨some _, rfl⟩ | exact ⟨none, rfl⟩ | exact ⟨_, rfl⟩) rfl ?_
      refine kj_iload_n X dX1_countDevices_32 rfl rfl ?_
      refine kj_aload_n X dX1_countDevices_33 rfl rfl (by first | exact ⟨some _, rfl⟩ | exact ⟨none, rfl⟩ | exact ⟨_, rfl⟩) ?_
      refine kj_aload X dX1_countDevices_34 rfl (by first | exact ⟨some _, rfl⟩ | exact ⟨none, rfl⟩ | exact ⟨_, rfl⟩) ?_
      refine hrow x hx X _ _ _ _ k hd (fun z => kr_up_n fun e => z (by rw [(Prod.mk.inj e).2]; exact hq0)) ?_
      have tail : ∀ (b : Int32), nI ((List.range k).countP f) + b = nI ((List.range (k + 1)).countP f) → kr_J G x 5 (kr_Q G x 1 4 (fun v H => v = some (.int (nI ((List.range (sN S 14 0)).countP f))) ∧ kr_S G (gA g) (kr_cells G g S Z) H) kr_no) (kr_S G (gA g) (kr_cells G g S (kr_up Z (40, q) (some (kr_it (gA g) (1, 2) (nI (k + 1)) (nI k) (gM g (1, 2))))))) 1 4 49 [some (.ref (gA g (0, 0))), some (.ref tst), some (.int (nI ((List.range k).countP f))), some (.ref (gA g (40, q))), some (.ref (gA g (11, k)))] [.int b, .int (nI ((List.range k).countP f))] := by
        intro b hb
        refine kj_iadd X dX1_countDevices_49 ?_
        rw [hb]
        refine kj_istore_n (lv' := [_, _, _, _, _]) X dX1_countDevices_50 rfl (by decide) (by intro w h _; cases h <;> first | rfl | exact kr_cat _) rfl ?_
        refine kj_goto X 12 dX1_countDevices_51 (by decide) ?_
        refine kj_lv (lv' := [some (.ref (gA g (0, 0))), some (.ref tst), some (.int (nI ((List.range (k + 1)).countP f))), some (.ref (gA g (40, q))), none]) (fun i v h => ?_) (ih (k + 1) (nI k) (by omega))
        rcases i with _ | _ | _ | _ | _ | i
        · exact h
        · exact h
        · exact h
        · exact h
        · cases h
        · exact h
      cases hf : f k with
      | false =>
        refine kj_if_eq X 48 dX1_countDevices_41 (by decide) (fun c_41 => ?_) (fun c_41 => ?_)
        · refine kj_iconst (v := 0) X dX1_countDevices_48 (by decide) ?_
          exact tail 0 (by rw [List.range_succ, List.countP_append]; simp [hf])
        · exact absurd rfl c_41
      | true =>
        refine kj_if_eq X 48 dX1_countDevices_41 (by decide) (fun c_41 => ?_) (fun c_41 => ?_)
        · exact absurd c_41 (by decide)
        · refine kj_iconst (v := 1) X dX1_countDevices_44 (by decide) ?_
          refine kj_goto X 49 dX1_countDevices_45 (by decide) ?_
          exact tail 1 (by rw [List.range_succ, List.countP_append]; simp [hf, nI_1])
  exact loop (sN S 14 0) 0 (-1) (by omega)
/-- a count of what a test takes; the test's call by a row of its own -/
theorem ct_X1_countVisitors (hF : kr_F G l) (hg : kr_gok g) (hn : sN S 2 0 ≤ 100) {f : Nat → Bool} {tst : Nat}
    (hrow : ∀ (x : kr_X), kx_l x = l → kr_C G x yX1_countVisitors cX1_countVisitors 5 (some .int) { frames := 8, cells := 1, slots := 4, locals := 600 } [] → ∀ (Q : State → Prop) (lv : List (Option Value)) (n : Int32) (Z' : kr_Ro → Option kr_AE) (d : Nat), d < sN S 2 0 → (Z (40, tst) ≠ none → Z' (40, tst) = Z (40, tst)) →
      kr_J G x 5 Q (kr_S G (gA g) (kr_cells G g S Z')) 1 4 41 lv [.int (kr_b (f d)), .int n] → kr_J G x 5 Q (kr_S G (gA g) (kr_cells G g S Z')) 1 4 36 lv [.ref (gA g (13, d)), .ref tst, .int n]) :
    kr_T G l yX1_countVisitors (ws_ yX1_countVisitors cX1_countVisitors 5 (Option.some Jvm.ClassFile.FieldType.int)) 8 600 [.ref (gA g (0, 0)), .ref tst] (kr_S G (gA g) (kr_cells G g S Z)) 1 4 (fun v H => v = some (.int (nI ((List.range (sN S 2 0)).countP f))) ∧ kr_S G (gA g) (kr_cells G g S Z) H) kr_no := by
  refine kr_T.of (by decide +kernel) hF (by simp [Value.category]) (Nat.le_of_ble_eq_true rfl) (fun x hx X => ?_)
  refine kj_iconst (v := 0) X dX1_countVisitors_0 (by decide) ?_
  refine kj_istore_n (lv' := [_, _, _, _, _]) X dX1_countVisitors_1 rfl (by decide) (by intro w h _; cases h <;> first | rfl | exact kr_cat _) rfl ?_
  refine kj_aload_n X dX1_countVisitors_2 rfl rfl (by first | exact ⟨some _, rfl⟩ | exact ⟨none, rfl⟩ | exact ⟨_, rfl⟩) ?_
  refine kj_get X kc_X1 3 (by decide) q231 (Or.inl rfl) dX1_countVisitors_3 (fun H h => h.own (kc_kio)) rfl ?_
  refine kj_callF X 0 (ct_J2_iterator X.F hg.1 (Or.inl ⟨_, kc_l3⟩)) q262 q265 q267 q46 q269 q264 q263 q268 q266 q148 ⟨by decide, by decide, by decide +kernel⟩ dX1_countVisitors_6 rfl rfl (by first | exact Nat.le_of_ble_eq_true rfl | simp [kr_cat, Value.category]) ⟨Nat.le_of_ble_eq_true rfl, Nat.le_of_ble_eq_true rfl⟩ ⟨by dsimp only; omega, by dsimp only; omega⟩ kc_J2.1 (fun H h => h.list (kc_l3)) (fun E => kjx_no) (fun v_6 => ?_)
  refine kj_open (fun q hq => ?_)
  obtain ⟨hv, hq0⟩ := hq
  subst hv
  rw [kc_Zt] at hq0
  rw [kc_upt]
  rw [show (some (Value.ref q)).toList = [Value.ref (gA g (40, q))] from by rw [(hg.1 q).1]; rfl]
  have hlen : ((List.range (sN S 2 0)).map fun i => gA g (13, i)).length = sN S 2 0 := by rw [List.length_map, List.length_range]
  refine kj_astore_n (lv' := [_, _, _, _, _]) X dX1_countVisitors_11 rfl (by decide) (by intro w h _; cases h <;> first | rfl | exact kr_cat _) (by first | exact ⟨some _, rfl⟩ | exact ⟨none, rfl⟩ | exact ⟨_, rfl⟩) rfl ?_
  have loop : ∀ m k lr, k + m = sN S 2 0 → kr_J G x 5 (kr_Q G x 1 4 (fun v H => v = some (.int (nI ((List.range (sN S 2 0)).countP f))) ∧ kr_S G (gA g) (kr_cells G g S Z) H) kr_no) (kr_S G (gA g) (kr_cells G g S (kr_up Z (40, q) (some (kr_it (gA g) (1, 3) (nI k) lr (gM g (1, 3))))))) 1 4 12 [some (.ref (gA g (0, 0))), some (.ref tst), some (.int (nI ((List.range k).countP f))), some (.ref (gA g (40, q))), none] [] := by
    intro m
    induction m with
    | zero =>
      intro k lr hk
      have hj : kr_cells G g S (kr_up Z (40, q) (some (kr_it (gA g) (1, 3) (nI k) lr (gM g (1, 3))))) (40, q) = some (kr_it (gA g) (1, 3) (nI k) lr (gM g (1, 3))) := by rw [kc_Zt, kr_up_s]
      refine kj_aload_n X dX1_countVisitors_12 rfl rfl (by first | exact ⟨some _, rfl⟩ | exact ⟨none, rfl⟩ | exact ⟨_, rfl⟩) ?_
      refine kj_callF X 0 (ct_J22_hasNext X.F (Or.inl ⟨_, kc_l3⟩) (by rw [hlen]; omega) (by rw [hlen]; omega) hj) q290 q294 q296 q81 q298 q292 q291 q297 q295 q293 ⟨by decide, by decide, by decide +kernel⟩ dX1_countVisitors_13 rfl rfl (by first | exact Nat.le_of_ble_eq_true rfl | simp [kr_cat, Value.category]) ⟨Nat.le_of_ble_eq_true rfl, Nat.le_of_ble_eq_true rfl⟩ ⟨by dsimp only; omega, by dsimp only; omega⟩ kc_J22.1 (fun H h => h.rc (hj)) (fun E => kjx_no) (fun v_13 => ?_)
      refine kj_and (fun e_13 => ?_)
      subst e_13
      rw [hlen, show decide (k < sN S 2 0) = false from decide_eq_false (by omega)]
      refine kj_if_eq X 54 dX1_countVisitors_18 (by decide) (fun c_18 => ?_) (fun c_18 => ?_)
      · obtain rfl : k = sN S 2 0 := by omega
        refine kj_iload_n X dX1_countVisitors_54 rfl rfl ?_
        exact kj_iret X dX1_countVisitors_55 (by omega) (by omega) (fun H h => ⟨rfl, h.tidy hq0⟩)
      · exact absurd rfl c_18
    | succ m ih =>
      intro k lr hk
      have hd : k < sN S 2 0 := by omega
      have hj : kr_cells G g S (kr_up Z (40, q) (some (kr_it (gA g) (1, 3) (nI k) lr (gM g (1, 3))))) (40, q) = some (kr_it (gA g) (1, 3) (nI k) lr (gM g (1, 3))) := by rw [kc_Zt, kr_up_s]
      refine kj_aload_n X dX1_countVisitors_12 rfl rfl (by first | exact ⟨some _, rfl⟩ | exact ⟨none, rfl⟩ | exact ⟨_, rfl⟩) ?_
      refine kj_callF X 0 (ct_J22_hasNext X.F (Or.inl ⟨_, kc_l3⟩) (by rw [hlen]; omega) (by rw [hlen]; omega) hj) q290 q294 q296 q81 q298 q292 q291 q297 q295 q293 ⟨by decide, by decide, by decide +kernel⟩ dX1_countVisitors_13 rfl rfl (by first | exact Nat.le_of_ble_eq_true rfl | simp [kr_cat, Value.category]) ⟨Nat.le_of_ble_eq_true rfl, Nat.le_of_ble_eq_true rfl⟩ ⟨by dsimp only; omega, by dsimp only; omega⟩ kc_J22.1 (fun H h => h.rc (hj)) (fun E => kjx_no) (fun v_13 => ?_)
      refine kj_and (fun e_13 => ?_)
      subst e_13
      rw [hlen, show decide (k < sN S 2 0) = true from decide_eq_true hd]
      refine kj_if_eq X 54 dX1_countVisitors_18 (by decide) (fun c_18 => ?_) (fun c_18 => ?_)
      · exact absurd c_18 (by decide)
      refine kj_aload_n X dX1_countVisitors_21 rfl rfl (by first | exact ⟨some _, rfl⟩ | exact ⟨none, rfl⟩ | exact ⟨_, rfl⟩) ?_
      refine kj_callF X 0 (ct_J22_next X.F kc_l3 (a := gA g (13, k)) (by rw [List.getElem?_map, List.getElem?_range hd]; rfl) hj) q300 q303 q305 q81 q307 q302 q301 q306 q304 q293 ⟨by decide, by decide, by decide +kernel⟩ dX1_countVisitors_22 rfl rfl (by first | exact Nat.le_of_ble_eq_true rfl | simp [kr_cat, Value.category]) ⟨Nat.le_of_ble_eq_true rfl, Nat.le_of_ble_eq_true rfl⟩ ⟨by dsimp only; omega, by dsimp only; omega⟩ kc_J22.1 (fun H h => h.rc (hj)) (fun E => kjx_no) (fun v_22 => ?_)
      refine kj_and (fun e_22 => ?_)
      subst e_22
      rw [kc_upt, kr_up_up]
      refine kj_ccastR X kc_X18.1 q468 dX1_countVisitors_27 (fun H h => h.at (kc_13 hd)) ?_
      refine kj_astore (lv' := [_, _, _, _, _]) X dX1_countVisitors_30 (by decide) (by intro w h _; cases h <;> first | rfl | exact kr_cat _) (by first | exact ⟨some _, rfl⟩ | exact ⟨none, rfl⟩ | exact ⟨_, rfl⟩) rfl ?_
      refine kj_iload_n X dX1_countVisitors_32 rfl rfl ?_
      refine kj_aload_n X dX1_countVisitors_33 rfl rfl (by first | exact ⟨some _, rfl⟩ | exact ⟨none, rfl⟩ | exact ⟨_, rfl⟩) ?_
      refine kj_aload X dX1_countVisitors_34 rfl (by first | exact ⟨some _, rfl⟩ | exact ⟨none, rfl⟩ | exact ⟨_, rfl⟩) ?_
      refine hrow x hx X _ _ _ _ k hd (fun z => kr_up_n fun e => z (by rw [(Prod.mk.inj e).2]; exact hq0)) ?_
      have tail : ∀ (b : Int32), nI ((List.range k).countP f) + b = nI ((List.range (k + 1)).countP f) → kr_J G x 5 (kr_Q G x 1 4 (fun v H => v = some (.int (nI ((List.range (sN S 2 0)).countP f))) ∧ kr_S G (gA g) (kr_cells G g S Z) H) kr_no) (kr_S G (gA g) (kr_cells G g S (kr_up Z (40, q) (some (kr_it (gA g) (1, 3) (nI (k + 1)) (nI k) (gM g (1, 3))))))) 1 4 49 [some (.ref (gA g (0, 0))), some (.ref tst), some (.int (nI ((List.range k).countP f))), some (.ref (gA g (40, q))), some (.ref (gA g (13, k)))] [.int b, .int (nI ((List.range k).countP f))] := by
        intro b hb
        refine kj_iadd X dX1_countVisitors_49 ?_
        rw [hb]
        refine kj_istore_n (lv' := [_, _, _, _, _]) X dX1_countVisitors_50 rfl (by decide) (by intro w h _; cases h <;> first | rfl | exact kr_cat _) rfl ?_
        refine kj_goto X 12 dX1_countVisitors_51 (by decide) ?_
        refine kj_lv (lv' := [some (.ref (gA g (0, 0))), some (.ref tst), some (.int (nI ((List.range (k + 1)).countP f))), some (.ref (gA g (40, q))), none]) (fun i v h => ?_) (ih (k + 1) (nI k) (by omega))
        rcases i with _ | _ | _ | _ | _ | i
        · exact h
        · exact h
        · exact h
        · exact h
        · cases h
        · exact h
      cases hf : f k with
      | false =>
        refine kj_if_eq X 48 dX1_countVisitors_41 (by decide) (fun c_41 => ?_) (fun c_41 => ?_)
        · refine kj_iconst (v := 0) X dX1_countVisitors_48 (by decide) ?_
          exact tail 0 (by rw [List.range_succ, List.countP_append]; simp [hf])
        · exact absurd rfl c_41
      | true =>
        refine kj_if_eq X 48 dX1_countVisitors_41 (by decide) (fun c_41 => ?_) (fun c_41 => ?_)
        · exact absurd c_41 (by decide)
        · refine kj_iconst (v := 1) X dX1_countVisitors_44 (by decide) ?_
          refine kj_goto X 49 dX1_countVisitors_45 (by decide) ?_
          exact tail 1 (by rw [List.range_succ, List.countP_append]; simp [hf, nI_1])
  exact loop (sN S 2 0) 0 (-1) (by omega)
end
