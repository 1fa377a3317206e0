/-! CONSTRUCTORS of the lines (printed by tools/gen_line.py) -/
set_option maxRecDepth 100000
section
variable {G : kr_G} {l : Launch} {g g' : kr_Gh} {S S' : kr_St} {Z Z' : kr_Ro → Option kr_AE}
theorem ct_X5_init (hF : kr_F G l) (hg : kr_gok g) {q c : Nat} {i : Int32} (hc : 8 ≤ c ∧ c ≤ 16) (hz : Z (20, q) = kr_o c [.int 0]) : kr_T G l yX5_init (ws_ yX5_init cX5_init 2 (Option.none : Option Jvm.ClassFile.FieldType)) 3 200 [.ref (gA g (20, q)), .int i] (kr_S G (gA g) (kr_cells G g S Z)) 0 0 (fun v H => v = none ∧ kr_S G (gA g) (kr_cells G g S (kr_up Z (20, q) (kr_o c [.int i]))) H) kr_no := by
  refine kr_T.of (by decide +kernel) hF (by simp [Value.category]) (Nat.le_of_ble_eq_true rfl) (fun x hx X => ?_)
  refine kj_aload_n X dX5_init_0 rfl rfl (by first | exact ⟨some _, rfl⟩ | exact ⟨none, rfl⟩ | exact ⟨_, rfl⟩) ?_
  refine kj_objInit X q619 q95 q96 dX5_init_1 (Nat.le_of_ble_eq_true rfl) (by simp [Value.category, kr_cat]) ?_
  refine kj_aload_n X dX5_init_4 rfl rfl (by first | exact ⟨some _, rfl⟩ | exact ⟨none, rfl⟩ | exact ⟨_, rfl⟩) ?_
  refine kj_iload_n X dX5_init_5 rfl rfl ?_
  have e : c = 8 ∨ c = 9 ∨ c = 10 ∨ c = 11 ∨ c = 12 ∨ c = 13 ∨ c = 14 ∨ c = 15 ∨ c = 16 := by omega
  rcases e with rfl | rfl | rfl | rfl | rfl | rfl | rfl | rfl | rfl
  · refine kj_putF X kc_X6 0 (by decide) q620 rfl rfl rfl rfl dX5_init_6 (by first | rfl | exact kr_nar _ _ | exact kr_narb _) (by first | rfl | exact kr_fitr _ _ | exact kr_fitb _) (Nat.le_of_ble_eq_true rfl) (fun H h => h.own (kc_Z2.trans hz)) (fun H H1 h a u => h.updz (fs' := [.int i]) hz a u) ?_
    exact kj_vret X dX5_init_9 (by omega) (by omega) (fun H h => ⟨rfl, h⟩)
  · refine kj_putF X kc_X7 0 (by decide) q620 rfl rfl rfl rfl dX5_init_6 (by first | rfl | exact kr_nar _ _ | exact kr_narb _) (by first | rfl | exact kr_fitr _ _ | exact kr_fitb _) (Nat.le_of_ble_eq_true rfl) (fun H h => h.own (kc_Z2.trans hz)) (fun H H1 h a u => h.updz (fs' := [.int i]) hz a u) ?_
    exact kj_vret X dX5_init_9 (by omega) (by omega) (fun H h => ⟨rfl, h⟩)
  · refine kj_putF X kc_X8 0 (by decide) q620 rfl rfl rfl rfl dX5_init_6 (by first | rfl | exact kr_nar _ _ | exact kr_narb _) (by first | rfl | exact kr_fitr _ _ | exact kr_fitb _) (Nat.le_of_ble_eq_true rfl) (fun H h => h.own (kc_Z2.trans hz)) (fun H H1 h a u => h.updz (fs' := [.int i]) hz a u) ?_
    exact kj_vret X dX5_init_9 (by omega) (by omega) (fun H h => ⟨rfl, h⟩)
  · refine kj_putF X kc_X9 0 (by decide) q620 rfl rfl rfl rfl dX5_init_6 (by first | rfl | exact kr_nar _ _ | exact kr_narb _) (by first | rfl | exact kr_fitr _ _ | exact kr_fitb _) (Nat.le_of_ble_eq_true rfl) (fun H h => h.own (kc_Z2.trans hz)) (fun H H1 h a u => h.updz (fs' := [.int i]) hz a u) ?_
    exact kj_vret X dX5_init_9 (by omega) (by omega) (fun H h => ⟨rfl, h⟩)
  · refine kj_putF X kc_X10 0 (by decide) q620 rfl rfl rfl rfl dX5_init_6 (by first | rfl | exact kr_nar _ _ | exact kr_narb _) (by first | rfl | exact kr_fitr _ _ | exact kr_fitb _) (Nat.le_of_ble_eq_true rfl) (fun H h => h.own (kc_Z2.trans hz)) (fun H H1 h a u => h.updz (fs' := [.int i]) hz a u) ?_
    exact kj_vret X dX5_init_9 (by omega) (by omega) (fun H h => ⟨rfl, h⟩)
  · refine kj_putF X kc_X11 0 (by decide) q620 rfl rfl rfl rfl dX5_init_6 (by first | rfl | exact kr_nar _ _ | exact kr_narb _) (by first | rfl | exact kr_fitr _ _ | exact kr_fitb _) (Nat.le_of_ble_eq_true rfl) (fun H h => h.own (kc_Z2.trans hz)) (fun H H1 h a u => h.updz (fs' := [.int i]) hz a u) ?_
    exact kj_vret X dX5_init_9 (by omega) (by omega) (fun H h => ⟨rfl, h⟩)
  · refine kj_putF X kc_X12 0 (by decide) q620 rfl rfl rfl rfl dX5_init_6 (by first | rfl | exact kr_nar _ _ | exact kr_narb _) (by first | rfl | exact kr_fitr _ _ | exact kr_fitb _) (Nat.le_of_ble_eq_true rfl) (fun H h => h.own (kc_Z2.trans hz)) (fun H H1 h a u => h.updz (fs' := [.int i]) hz a u) ?_
    exact kj_vret X dX5_init_9 (by omega) (by omega) (fun H h => ⟨rfl, h⟩)
  · refine kj_putF X kc_X13 0 (by decide) q620 rfl rfl rfl rfl dX5_init_6 (by first | rfl | exact kr_nar _ _ | exact kr_narb _) (by first | rfl | exact kr_fitr _ _ | exact kr_fitb _) (Nat.le_of_ble_eq_true rfl) (fun H h => h.own (kc_Z2.trans hz)) (fun H H1 h a u => h.updz (fs' := [.int i]) hz a u) ?_
    exact kj_vret X dX5_init_9 (by omega) (by omega) (fun H h => ⟨rfl, h⟩)
  · refine kj_putF X kc_X14 0 (by decide) q620 rfl rfl rfl rfl dX5_init_6 (by first | rfl | exact kr_nar _ _ | exact kr_narb _) (by first | rfl | exact kr_fitr _ _ | exact kr_fitb _) (Nat.le_of_ble_eq_true rfl) (fun H h => h.own (kc_Z2.trans hz)) (fun H H1 h a u => h.updz (fs' := [.int i]) hz a u) ?_
    exact kj_vret X dX5_init_9 (by omega) (by omega) (fun H h => ⟨rfl, h⟩)
theorem ct_X6_init (hF : kr_F G l) (hg : kr_gok g) {q : Nat} {i : Int32} (hz : Z (20, q) = kr_o 8 [.int 0]) : kr_T G l yX6_init (ws_ yX6_init cX6_init 2 (Option.none : Option Jvm.ClassFile.FieldType)) 4 250 [.ref (gA g (20, q)), .int i] (kr_S G (gA g) (kr_cells G g S Z)) 0 0 (fun v H => v = none ∧ kr_S G (gA g) (kr_cells G g S (kr_up Z (20, q) (kr_o 8 [.int i]))) H) kr_no := by
  refine kr_T.of (by decide +kernel) hF (by simp [Value.category]) (Nat.le_of_ble_eq_true rfl) (fun x hx X => ?_)
  refine kj_aload_n X dX6_init_0 rfl rfl (by first | exact ⟨some _, rfl⟩ | exact ⟨none, rfl⟩ | exact ⟨_, rfl⟩) ?_
  refine kj_iload_n X dX6_init_1 rfl rfl ?_
  refine kj_callI X 1 (ct_X5_init X.F hg (c := 8) (by omega) hz) q618 q63 q616 q617 rfl ⟨by decide, by decide, by decide +kernel⟩ dX6_init_2 rfl rfl (by first | exact Nat.le_of_ble_eq_true rfl | simp [kr_cat, Value.category]) ⟨Nat.le_of_ble_eq_true rfl, Nat.le_of_ble_eq_true rfl⟩ ⟨by dsimp only; omega, by dsimp only; omega⟩ (fun E => kjx_no) (fun v_2 => ?_)
  refine kj_and (fun e_2 => ?_)
  subst e_2
  exact kj_vret X dX6_init_5 (by omega) (by omega) (fun H h => ⟨rfl, h⟩)
theorem ct_X7_init (hF : kr_F G l) (hg : kr_gok g) {q : Nat} {i : Int32} (hz : Z (20, q) = kr_o 9 [.int 0]) : kr_T G l yX7_init (ws_ yX7_init cX7_init 2 (Option.none : Option Jvm.ClassFile.FieldType)) 4 250 [.ref (gA g (20, q)), .int i] (kr_S G (gA g) (kr_cells G g S Z)) 0 0 (fun v H => v = none ∧ kr_S G (gA g) (kr_cells G g S (kr_up Z (20, q) (kr_o 9 [.int i]))) H) kr_no := by
  refine kr_T.of (by decide +kernel) hF (by simp [Value.category]) (Nat.le_of_ble_eq_true rfl) (fun x hx X => ?_)
  refine kj_aload_n X dX7_init_0 rfl rfl (by first | exact ⟨some _, rfl⟩ | exact ⟨none, rfl⟩ | exact ⟨_, rfl⟩) ?_
  refine kj_iload_n X dX7_init_1 rfl rfl ?_
  refine kj_callI X 1 (ct_X5_init X.F hg (c := 9) (by omega) hz) q618 q63 q638 q617 rfl ⟨by decide, by decide, by decide +kernel⟩ dX7_init_2 rfl rfl (by first | exact Nat.le_of_ble_eq_true rfl | simp [kr_cat, Value.category]) ⟨Nat.le_of_ble_eq_true rfl, Nat.le_of_ble_eq_true rfl⟩ ⟨by dsimp only; omega, by dsimp only; omega⟩ (fun E => kjx_no) (fun v_2 => ?_)
  refine kj_and (fun e_2 => ?_)
  subst e_2
  exact kj_vret X dX7_init_5 (by omega) (by omega) (fun H h => ⟨rfl, h⟩)
theorem ct_X8_init (hF : kr_F G l) (hg : kr_gok g) {q : Nat} {i : Int32} (hz : Z (20, q) = kr_o 10 [.int 0]) : kr_T G l yX8_init (ws_ yX8_init cX8_init 2 (Option.none : Option Jvm.ClassFile.FieldType)) 4 250 [.ref (gA g (20, q)), .int i] (kr_S G (gA g) (kr_cells G g S Z)) 0 0 (fun v H => v = none ∧ kr_S G (gA g) (kr_cells G g S (kr_up Z (20, q) (kr_o 10 [.int i]))) H) kr_no := by
  refine kr_T.of (by decide +kernel) hF (by simp [Value.category]) (Nat.le_of_ble_eq_true rfl) (fun x hx X => ?_)
  refine kj_aload_n X dX8_init_0 rfl rfl (by first | exact ⟨some _, rfl⟩ | exact ⟨none, rfl⟩ | exact ⟨_, rfl⟩) ?_
  refine kj_iload_n X dX8_init_1 rfl rfl ?_
  refine kj_callI X 1 (ct_X5_init X.F hg (c := 10) (by omega) hz) q618 q63 q646 q617 rfl ⟨by decide, by decide, by decide +kernel⟩ dX8_init_2 rfl rfl (by first | exact Nat.le_of_ble_eq_true rfl | simp [kr_cat, Value.category]) ⟨Nat.le_of_ble_eq_true rfl, Nat.le_of_ble_eq_true rfl⟩ ⟨by dsimp only; omega, by dsimp only; omega⟩ (fun E => kjx_no) (fun v_2 => ?_)
  refine kj_and (fun e_2 => ?_)
  subst e_2
  exact kj_vret X dX8_init_5 (by omega) (by omega) (fun H h => ⟨rfl, h⟩)
theorem ct_X9_init (hF : kr_F G l) (hg : kr_gok g) {q : Nat} {i : Int32} (hz : Z (20, q) = kr_o 11 [.int 0]) : kr_T G l yX9_init (ws_ yX9_init cX9_init 2 (Option.none : Option Jvm.ClassFile.FieldType)) 4 250 [.ref (gA g (20, q)), .int i] (kr_S G (gA g) (kr_cells G g S Z)) 0 0 (fun v H => v = none ∧ kr_S G (gA g) (kr_cells G g S (kr_up Z (20, q) (kr_o 11 [.int i]))) H) kr_no := by
  refine kr_T.of (by decide +kernel) hF (by simp [Value.category]) (Nat.le_of_ble_eq_true rfl) (fun x hx X => ?_)
  refine kj_aload_n X dX9_init_0 rfl rfl (by first | exact ⟨some _, rfl⟩ | exact ⟨none, rfl⟩ | exact ⟨_, rfl⟩) ?_
  refine kj_iload_n X dX9_init_1 rfl rfl ?_
  refine kj_callI X 1 (ct_X5_init X.F hg (c := 11) (by omega) hz) q618 q63 q654 q617 rfl ⟨by decide, by decide, by decide +kernel⟩ dX9_init_2 rfl rfl (by first | exact Nat.le_of_ble_eq_true rfl | simp [kr_cat, Value.category]) ⟨Nat.le_of_ble_eq_true rfl, Nat.le_of_ble_eq_true rfl⟩ ⟨by dsimp only; omega, by dsimp only; omega⟩ (fun E => kjx_no) (fun v_2 => ?_)
  refine kj_and (fun e_2 => ?_)
  subst e_2
  exact kj_vret X dX9_init_5 (by omega) (by omega) (fun H h => ⟨rfl, h⟩)
theorem ct_X10_init (hF : kr_F G l) (hg : kr_gok g) {q : Nat} {i : Int32} (hz : Z (20, q) = kr_o 12 [.int 0]) : kr_T G l yX10_init (ws_ yX10_init cX10_init 2 (Option.none : Option Jvm.ClassFile.FieldType)) 4 250 [.ref (gA g (20, q)), .int i] (kr_S G (gA g) (kr_cells G g S Z)) 0 0 (fun v H => v = none ∧ kr_S G (gA g) (kr_cells G g S (kr_up Z (20, q) (kr_o 12 [.int i]))) H) kr_no := by
  refine kr_T.of (by decide +kernel) hF (by simp [Value.category]) (Nat.le_of_ble_eq_true rfl) (fun x hx X => ?_)
  refine kj_aload_n X dX10_init_0 rfl rfl (by first | exact ⟨some _, rfl⟩ | exact ⟨none, rfl⟩ | exact ⟨_, rfl⟩) ?_
  refine kj_iload_n X dX10_init_1 rfl rfl ?_
  refine kj_callI X 1 (ct_X5_init X.F hg (c := 12) (by omega) hz) q618 q63 q662 q617 rfl ⟨by decide, by decide, by decide +kernel⟩ dX10_init_2 rfl rfl (by first | exact Nat.le_of_ble_eq_true rfl | simp [kr_cat, Value.category]) ⟨Nat.le_of_ble_eq_true rfl, Nat.le_of_ble_eq_true rfl⟩ ⟨by dsimp only; omega, by dsimp only; omega⟩ (fun E => kjx_no) (fun v_2 => ?_)
  refine kj_and (fun e_2 => ?_)
  subst e_2
  exact kj_vret X dX10_init_5 (by omega) (by omega) (fun H h => ⟨rfl, h⟩)
theorem ct_X11_init (hF : kr_F G l) (hg : kr_gok g) {q : Nat} {i : Int32} (hz : Z (20, q) = kr_o 13 [.int 0]) : kr_T G l yX11_init (ws_ yX11_init cX11_init 2 (Option.none : Option Jvm.ClassFile.FieldType)) 4 250 [.ref (gA g (20, q)), .int i] (kr_S G (gA g) (kr_cells G g S Z)) 0 0 (fun v H => v = none ∧ kr_S G (gA g) (kr_cells G g S (kr_up Z (20, q) (kr_o 13 [.int i]))) H) kr_no := by
  refine kr_T.of (by decide +kernel) hF (by simp [Value.category]) (Nat.le_of_ble_eq_true rfl) (fun x hx X => ?_)
  refine kj_aload_n X dX11_init_0 rfl rfl (by first | exact ⟨some _, rfl⟩ | exact ⟨none, rfl⟩ | exact ⟨_, rfl⟩) ?_
  refine kj_iload_n X dX11_init_1 rfl rfl ?_
  refine kj_callI X 1 (ct_X5_init X.F hg (c := 13) (by omega) hz) q618 q63 q670 q617 rfl ⟨by decide, by decide, by decide +kernel⟩ dX11_init_2 rfl rfl (by first | exact Nat.le_of_ble_eq_true rfl | simp [kr_cat, Value.category]) ⟨Nat.le_of_ble_eq_true rfl, Nat.le_of_ble_eq_true rfl⟩ ⟨by dsimp only; omega, by dsimp only; omega⟩ (fun E => kjx_no) (fun v_2 => ?_)
  refine kj_and (fun e_2 => ?_)
  subst e_2
  exact kj_vret X dX11_init_5 (by omega) (by omega) (fun H h => ⟨rfl, h⟩)
theorem ct_X12_init (hF : kr_F G l) (hg : kr_gok g) {q : Nat} {i : Int32} (hz : Z (20, q) = kr_o 14 [.int 0]) : kr_T G l yX12_init (ws_ yX12_init cX12_init 2 (Option.none : Option Jvm.ClassFile.FieldType)) 4 250 [.ref (gA g (20, q)), .int i] (kr_S G (gA g) (kr_cells G g S Z)) 0 0 (fun v H => v = none ∧ kr_S G (gA g) (kr_cells G g S (kr_up Z (20, q) (kr_o 14 [.int i]))) H) kr_no := by
  refine kr_T.of (by decide +kernel) hF (by simp [Value.category]) (Nat.le_of_ble_eq_true rfl) (fun x hx X => ?_)
  refine kj_aload_n X dX12_init_0 rfl rfl (by first | exact ⟨some _, rfl⟩ | exact ⟨none, rfl⟩ | exact ⟨_, rfl⟩) ?_
  refine kj_iload_n X dX12_init_1 rfl rfl ?_
  refine kj_callI X 1 (ct_X5_init X.F hg (c := 14) (by omega) hz) q618 q63 q678 q617 rfl ⟨by decide, by decide, by decide +kernel⟩ dX12_init_2 rfl rfl (by first | exact Nat.le_of_ble_eq_true rfl | simp [kr_cat, Value.category]) ⟨Nat.le_of_ble_eq_true rfl, Nat.le_of_ble_eq_true rfl⟩ ⟨by dsimp only; omega, by dsimp only; omega⟩ (fun E => kjx_no) (fun v_2 => ?_)
  refine kj_and (fun e_2 => ?_)
  subst e_2
  exact kj_vret X dX12_init_5 (by omega) (by omega) (fun H h => ⟨rfl, h⟩)
theorem ct_X13_init (hF : kr_F G l) (hg : kr_gok g) {q : Nat} {i : Int32} (hz : Z (20, q) = kr_o 15 [.int 0]) : kr_T G l yX13_init (ws_ yX13_init cX13_init 2 (Option.none : Option Jvm.ClassFile.FieldType)) 4 250 [.ref (gA g (20, q)), .int i] (kr_S G (gA g) (kr_cells G g S Z)) 0 0 (fun v H => v = none ∧ kr_S G (gA g) (kr_cells G g S (kr_up Z (20, q) (kr_o 15 [.int i]))) H) kr_no := by
  refine kr_T.of (by decide +kernel) hF (by simp [Value.category]) (Nat.le_of_ble_eq_true rfl) (fun x hx X => ?_)
  refine kj_aload_n X dX13_init_0 rfl rfl (by first | exact ⟨some _, rfl⟩ | exact ⟨none, rfl⟩ | exact ⟨_, rfl⟩) ?_
  refine kj_iload_n X dX13_init_1 rfl rfl ?_
  refine kj_callI X 1 (ct_X5_init X.F hg (c := 15) (by omega) hz) q618 q63 q686 q617 rfl ⟨by decide, by decide, by decide +kernel⟩ dX13_init_2 rfl rfl (by first | exact Nat.le_of_ble_eq_true rfl | simp [kr_cat, Value.category]) ⟨Nat.le_of_ble_eq_true rfl, Nat.le_of_ble_eq_true rfl⟩ ⟨by dsimp only; omega, by dsimp only; omega⟩ (fun E => kjx_no) (fun v_2 => ?_)
  refine kj_and (fun e_2 => ?_)
  subst e_2
  exact kj_vret X dX13_init_5 (by omega) (by omega) (fun H h => ⟨rfl, h⟩)
theorem ct_X14_init (hF : kr_F G l) (hg : kr_gok g) {q : Nat} {i : Int32} (hz : Z (20, q) = kr_o 16 [.int 0]) : kr_T G l yX14_init (ws_ yX14_init cX14_init 2 (Option.none : Option Jvm.ClassFile.FieldType)) 4 250 [.ref (gA g (20, q)), .int i] (kr_S G (gA g) (kr_cells G g S Z)) 0 0 (fun v H => v = none ∧ kr_S G (gA g) (kr_cells G g S (kr_up Z (20, q) (kr_o 16 [.int i]))) H) kr_no := by
  refine kr_T.of (by decide +kernel) hF (by simp [Value.category]) (Nat.le_of_ble_eq_true rfl) (fun x hx X => ?_)
  refine kj_aload_n X dX14_init_0 rfl rfl (by first | exact ⟨some _, rfl⟩ | exact ⟨none, rfl⟩ | exact ⟨_, rfl⟩) ?_
  refine kj_iload_n X dX14_init_1 rfl rfl ?_
  refine kj_callI X 1 (ct_X5_init X.F hg (c := 16) (by omega) hz) q618 q63 q694 q617 rfl ⟨by decide, by decide, by decide +kernel⟩ dX14_init_2 rfl rfl (by first | exact Nat.le_of_ble_eq_true rfl | simp [kr_cat, Value.category]) ⟨Nat.le_of_ble_eq_true rfl, Nat.le_of_ble_eq_true rfl⟩ ⟨by dsimp only; omega, by dsimp only; omega⟩ (fun E => kjx_no) (fun v_2 => ?_)
  refine kj_and (fun e_2 => ?_)
  subst e_2
  exact kj_vret X dX14_init_5 (by omega) (by omega) (fun H h => ⟨rfl, h⟩)
end
