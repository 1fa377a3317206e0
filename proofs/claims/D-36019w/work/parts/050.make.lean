/-! CONSTRUCTORS of Device, Kiosk, Playlist, Visitor -/
set_option maxRecDepth 100000
theorem kr_up_sw {κ α : Type} [DecidableEq κ] {f : κ → α} {i j : κ} {a b : α} (h : j ≠ i) : kr_up (kr_up f i a) j b = kr_up (kr_up f j b) i a := by
  funext r
  unfold kr_up
  by_cases h1 : r = j
  · rw [if_pos h1, if_neg (fun z => h (h1.symm.trans z)), if_pos h1]
  · rw [if_neg h1, if_neg h1]
theorem kr_up_abs {κ α : Type} [DecidableEq κ] {f : κ → α} {i j : κ} {a b c : α} (h : j ≠ i) : kr_up (kr_up (kr_up f i a) j b) i c = kr_up (kr_up f j b) i c := by
  rw [kr_up_sw h, kr_up_up]
theorem kr_ne20 {q q2 : Nat} (h : q2 ≠ q) : ((20, q2) : kr_Ro) ≠ (20, q) := fun z => h (Prod.mk.inj z).2
section
variable {G : kr_G} {l : Launch} {g g' : kr_Gh} {S S' : kr_St} {Z Z' : kr_Ro → Option kr_AE}
/-- what was made behind q lies elsewhere -/
theorem kr_new20 {q q2 : Nat} {e : Option kr_AE} (hz : Z (20, q) = e) (he : e ≠ none) (h : Z (20, q2) = none) : q2 ≠ q := fun z => he (by rw [← hz, ← z, h])
abbrev kr_l0 : Option kr_AE := some (.inr ([], 0, 0))
theorem ct_X2_init (hF : kr_F G l) (hg : kr_gok g) {q : Nat} (hz : Z (20, q) = kr_o 2 [.null, .null]) : kr_T G l yX2_init (ws_ yX2_init cX2_init 1 (Option.none : Option Jvm.ClassFile.FieldType)) 5 300 [.ref (gA g (20, q))] (kr_S G (gA g) (kr_cells G g S Z)) 1 3 (fun v H => ∃ q2, (v = none ∧ Z (20, q2) = none) ∧ kr_S G (gA g) (kr_cells G g S (kr_up (kr_up Z (20, q2) kr_l0) (20, q) (kr_o 2 [.ref q2, .null]))) H) kr_no := by
  refine kr_T.of (by decide +kernel) hF (by simp [Value.category]) (Nat.le_of_ble_eq_true rfl) (fun x hx X => ?_)
  refine kj_aload_n X dX2_init_0 rfl rfl (by first | exact ⟨some _, rfl⟩ | exact ⟨none, rfl⟩ | exact ⟨_, rfl⟩) ?_
  refine kj_objInit X q131 q95 q96 dX2_init_1 (Nat.le_of_ble_eq_true rfl) (by simp [Value.category, kr_cat]) ?_
  refine kj_aload_n X dX2_init_4 rfl rfl (by first | exact ⟨some _, rfl⟩ | exact ⟨none, rfl⟩ | exact ⟨_, rfl⟩) ?_
  refine kj_new (Pn := fun q H => Z (20, q) = none ∧ kr_S G (gA g) (kr_cells G g S (kr_up Z (20, q) (kr_o 17 [.int 0, .null, .int 0]))) H) (fs := [.int 0, .null, .int 0]) X kc_J2 q132 q98 q46 (fun j hj => by rcases (show j = 0 ∨ j = 1 ∨ j = 2 by omega) with rfl | rfl | rfl <;> rfl) dX2_init_5 (by first | omega | (dsimp only; omega)) (by first | omega | (dsimp only; omega)) (fun H H1 h ho a u => h.mk2 hg a ho u) (fun q_5 => ?_)
  refine kj_and (fun h_q_5 => ?_)
  rw [show (Value.ref q_5) = Value.ref (gA g (20, q_5)) from by rw [(hg).2.2 q_5]]
  refine kj_dup X dX2_init_8 (by first | rfl | exact kr_cat _) ?_
  have hne := kr_new20 hz (fun z => by cases z) h_q_5
  refine kj_callI X 0 (ct_J2_init X.F (i := (20, q_5)) rfl (by rw [kc_Z2, kr_up_s])) q101 q46 q133 q100 rfl ⟨by decide, by decide, by decide +kernel⟩ dX2_init_9 rfl rfl (by first | exact Nat.le_of_ble_eq_true rfl | simp [kr_cat, Value.category]) ⟨Nat.le_of_ble_eq_true rfl, Nat.le_of_ble_eq_true rfl⟩ ⟨by dsimp only; omega, by dsimp only; omega⟩ (fun E => kjx_no) (fun v_9 => ?_)
  refine kj_and (fun e_9 => ?_)
  subst e_9
  rw [kc_up2, kr_up_up]
  have hz2 : kr_up Z (20, q_5) kr_l0 (20, q) = kr_o 2 [.null, .null] := by rw [kr_up_n (kr_ne20 (Ne.symm hne))]; exact hz
  refine kj_putF X kc_X2 0 (by decide) q134 rfl rfl rfl rfl dX2_init_12 (by first | rfl | exact kr_nar _ _ | exact kr_narb _) (by first | rfl | exact kr_fitr _ _ | exact kr_fitb _) (Nat.le_of_ble_eq_true rfl) (fun H h => h.own (kc_Z2.trans hz2)) (fun H H1 h a u => h.updz (fs' := [.ref (gA g (20, q_5)), .null]) hz2 a u) ?_
  exact kj_vret X dX2_init_15 (by omega) (by omega) (fun H h => ⟨q_5, ⟨rfl, h_q_5⟩, by rw [hg.2.2] at h; exact h⟩)
theorem ct_X15_init (hF : kr_F G l) (hg : kr_gok g) {q : Nat} {i : Int32} (hz : Z (20, q) = kr_o 6 [.int 0, .null, .null, .int 0, .int 0, .int 0, .int 0]) : kr_T G l yX15_init (ws_ yX15_init cX15_init 2 (Option.none : Option Jvm.ClassFile.FieldType)) 5 300 [.ref (gA g (20, q)), .int i] (kr_S G (gA g) (kr_cells G g S Z)) 1 3 (fun v H => ∃ q2, (v = none ∧ Z (20, q2) = none) ∧ kr_S G (gA g) (kr_cells G g S (kr_up (kr_up Z (20, q2) kr_l0) (20, q) (kr_o 6 [.int i, .ref q2, .null, .int 0, .int 0, .int 0, .int (-1)]))) H) kr_no := by
  refine kr_T.of (by decide +kernel) hF (by simp [Value.category]) (Nat.le_of_ble_eq_true rfl) (fun x hx X => ?_)
  refine kj_aload_n X dX15_init_0 rfl rfl (by first | exact ⟨some _, rfl⟩ | exact ⟨none, rfl⟩ | exact ⟨_, rfl⟩) ?_
  refine kj_objInit X q1063 q95 q96 dX15_init_1 (Nat.le_of_ble_eq_true rfl) (by simp [Value.category, kr_cat]) ?_
  refine kj_aload_n X dX15_init_4 rfl rfl (by first | exact ⟨some _, rfl⟩ | exact ⟨none, rfl⟩ | exact ⟨_, rfl⟩) ?_
  refine kj_new (Pn := fun q H => Z (20, q) = none ∧ kr_S G (gA g) (kr_cells G g S (kr_up Z (20, q) (kr_o 17 [.int 0, .null, .int 0]))) H) (fs := [.int 0, .null, .int 0]) X kc_J2 q1064 q98 q46 (fun j hj => by rcases (show j = 0 ∨ j = 1 ∨ j = 2 by omega) with rfl | rfl | rfl <;> rfl) dX15_init_5 (by first | omega | (dsimp only; omega)) (by first | omega | (dsimp only; omega)) (fun H H1 h ho a u => h.mk2 hg a ho u) (fun q_5 => ?_)
  refine kj_and (fun h_q_5 => ?_)
  rw [show (Value.ref q_5) = Value.ref (gA g (20, q_5)) from by rw [(hg).2.2 q_5]]
  refine kj_dup X dX15_init_8 (by first | rfl | exact kr_cat _) ?_
  have hne := kr_new20 hz (fun z => by cases z) h_q_5
  refine kj_callI X 0 (ct_J2_init X.F (i := (20, q_5)) rfl (by rw [kc_Z2, kr_up_s])) q101 q46 q1065 q100 rfl ⟨by decide, by decide, by decide +kernel⟩ dX15_init_9 rfl rfl (by first | exact Nat.le_of_ble_eq_true rfl | simp [kr_cat, Value.category]) ⟨Nat.le_of_ble_eq_true rfl, Nat.le_of_ble_eq_true rfl⟩ ⟨by dsimp only; omega, by dsimp only; omega⟩ (fun E => kjx_no) (fun v_9 => ?_)
  refine kj_and (fun e_9 => ?_)
  subst e_9
  rw [kc_up2, kr_up_up]
  have hz2 : kr_up Z (20, q_5) kr_l0 (20, q) = kr_o 6 [.int 0, .null, .null, .int 0, .int 0, .int 0, .int 0] := by rw [kr_up_n (kr_ne20 (Ne.symm hne))]; exact hz
  have hz3 : ∀ e : Option kr_AE, kr_up (kr_up Z (20, q_5) kr_l0) (20, q) e (20, q) = e := fun e => kr_up_s
  refine kj_putF X kc_X15 1 (by decide) q1068 rfl rfl rfl rfl dX15_init_12 (by first | rfl | exact kr_nar _ _ | exact kr_narb _) (by first | rfl | exact kr_fitr _ _ | exact kr_fitb _) (Nat.le_of_ble_eq_true rfl) (fun H h => h.own (kc_Z2.trans hz2)) (fun H H1 h a u => h.updz (fs' := [.int 0, .ref (gA g (20, q_5)), .null, .int 0, .int 0, .int 0, .int 0]) hz2 a u) ?_
  refine kj_aload_n X dX15_init_15 rfl rfl (by first | exact ⟨some _, rfl⟩ | exact ⟨none, rfl⟩ | exact ⟨_, rfl⟩) ?_
  refine kj_iconst (v := -1) X dX15_init_16 (by decide) ?_
  refine kj_put X kc_X15 6 (by decide) q1075 (Or.inl rfl) rfl dX15_init_17 (by first | rfl | exact kr_nar _ _ | exact kr_narb _) (by first | rfl | exact kr_fitr _ _ | exact kr_fitb _) (Nat.le_of_ble_eq_true rfl) (fun H h => h.own (kc_Z2.trans (hz3 _))) (fun H H1 h a u => by have h9 := h.updz (fs' := [.int 0, .ref (gA g (20, q_5)), .null, .int 0, .int 0, .int 0, .int (-1)]) (hz3 _) a u; rw [kr_up_up] at h9; exact h9) ?_
  refine kj_aload_n X dX15_init_20 rfl rfl (by first | exact ⟨some _, rfl⟩ | exact ⟨none, rfl⟩ | exact ⟨_, rfl⟩) ?_
  refine kj_iload_n X dX15_init_21 rfl rfl ?_
  refine kj_putF X kc_X15 0 (by decide) q1066 rfl rfl rfl rfl dX15_init_22 (by first | rfl | exact kr_nar _ _ | exact kr_narb _) (by first | rfl | exact kr_fitr _ _ | exact kr_fitb _) (Nat.le_of_ble_eq_true rfl) (fun H h => h.own (kc_Z2.trans (hz3 _))) (fun H H1 h a u => by have h9 := h.updz (fs' := [.int i, .ref (gA g (20, q_5)), .null, .int 0, .int 0, .int 0, .int (-1)]) (hz3 _) a u; rw [kr_up_up] at h9; exact h9) ?_
  exact kj_vret X dX15_init_25 (by omega) (by omega) (fun H h => ⟨q_5, ⟨rfl, h_q_5⟩, by rw [hg.2.2] at h; exact h⟩)
end
