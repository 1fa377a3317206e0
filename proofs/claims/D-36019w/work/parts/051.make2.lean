/-! CONSTRUCTORS 2 -/
set_option maxRecDepth 100000
section
variable {G : kr_G} {l : Launch} {g g' : kr_Gh} {S S' : kr_St} {Z Z' : kr_Ro → Option kr_AE}
theorem kr_al_nil : kr_al7 G 0 (fun _ => none) = kr_al G [] := congrArg (fun f => kr_al7 G 0 f) (funext fun j => (List.getElem?_nil (i := j)).symm)
theorem ct_X4_init (hF : kr_F G l) (hg : kr_gok g) {q : Nat} (hz : Z (20, q) = kr_o 3 [.null, .null]) : kr_T G l yX4_init (ws_ yX4_init cX4_init 1 (Option.none : Option Jvm.ClassFile.FieldType)) 5 300 [.ref (gA g (20, q))] (kr_S G (gA g) (kr_cells G g S Z)) 2 3 (fun v H => ∃ a : Nat × Nat, (v = none ∧ Z (20, a.1) = none ∧ Z (20, a.2) = none ∧ a.1 ≠ a.2) ∧ kr_S G (gA g) (kr_cells G g S (kr_up (kr_up (kr_up Z (20, a.1) kr_l0) (20, a.2) (kr_al G [])) (20, q) (kr_o 3 [.ref a.1, .ref a.2]))) H) kr_no := by
  refine kr_T.of (by decide +kernel) hF (by simp [Value.category]) (Nat.le_of_ble_eq_true rfl) (fun x hx X => ?_)
  refine kj_aload_n X dX4_init_0 rfl rfl (by first | exact ⟨some _, rfl⟩ | exact ⟨none, rfl⟩ | exact ⟨_, rfl⟩) ?_
  refine kj_objInit X q509 q95 q96 dX4_init_1 (Nat.le_of_ble_eq_true rfl) (by simp [Value.category, kr_cat]) ?_
  refine kj_aload_n X dX4_init_4 rfl rfl (by first | exact ⟨some _, rfl⟩ | exact ⟨none, rfl⟩ | exact ⟨_, rfl⟩) ?_
  refine kj_new (Pn := fun q H => Z (20, q) = none ∧ kr_S G (gA g) (kr_cells G g S (kr_up Z (20, q) (kr_o 17 [.int 0, .null, .int 0]))) H) (fs := [.int 0, .null, .int 0]) X kc_J2 q510 q98 q46 (fun j hj => by rcases (show j = 0 ∨ j = 1 ∨ j = 2 by omega) with rfl | rfl | rfl <;> rfl) dX4_init_5 (by first | omega | (dsimp only; omega)) (by first | omega | (dsimp only; omega)) (fun H H1 h ho a u => h.mk2 hg a ho u) (fun q_5 => ?_)
  refine kj_and (fun h_q_5 => ?_)
  rw [show (Value.ref q_5) = Value.ref (gA g (20, q_5)) from by rw [(hg).2.2 q_5]]
  refine kj_dup X dX4_init_8 (by first | rfl | exact kr_cat _) ?_
  have hne := kr_new20 hz (fun z => by cases z) h_q_5
  refine kj_callI X 0 (ct_J2_init X.F (i := (20, q_5)) rfl (by rw [kc_Z2, kr_up_s])) q101 q46 q511 q100 rfl ⟨by decide, by decide, by decide +kernel⟩ dX4_init_9 rfl rfl (by first | exact Nat.le_of_ble_eq_true rfl | simp [kr_cat, Value.category]) ⟨Nat.le_of_ble_eq_true rfl, Nat.le_of_ble_eq_true rfl⟩ ⟨by dsimp only; omega, by dsimp only; omega⟩ (fun E => kjx_no) (fun v_9 => ?_)
  refine kj_and (fun e_9 => ?_)
  subst e_9
  rw [kc_up2, kr_up_up]
  have hz2 : kr_up Z (20, q_5) kr_l0 (20, q) = kr_o 3 [.null, .null] := by rw [kr_up_n (kr_ne20 (Ne.symm hne))]; exact hz
  refine kj_putF X kc_X4 0 (by decide) q514 rfl rfl rfl rfl dX4_init_12 (by first | rfl | exact kr_nar _ _ | exact kr_narb _) (by first | rfl | exact kr_fitr _ _ | exact kr_fitb _) (Nat.le_of_ble_eq_true rfl) (fun H h => h.own (kc_Z2.trans hz2)) (fun H H1 h a u => h.updz (fs' := [.ref (gA g (20, q_5)), .null]) hz2 a u) ?_
  refine kj_aload_n X dX4_init_15 rfl rfl (by first | exact ⟨some _, rfl⟩ | exact ⟨none, rfl⟩ | exact ⟨_, rfl⟩) ?_
  refine kj_iconst (v := 0) X dX4_init_16 (by decide) ?_
  rw [hg.2.2 q_5]
  refine kj_P (P' := kr_S G (gA g) (kr_cells G g S (kr_up (kr_up Z (20, q_5) kr_l0) (20, q) (kr_o 3 [.ref q_5, .null])))) (fun H h => h) ?_
  refine kj_anew (Pn := fun q2 H => kr_up (kr_up Z (20, q_5) kr_l0) (20, q) (kr_o 3 [.ref q_5, .null]) (20, q2) = none ∧ kr_S G (gA g) (kr_cells G g S (kr_up (kr_up (kr_up Z (20, q_5) kr_l0) (20, q) (kr_o 3 [.ref q_5, .null])) (20, q2) (kr_al G []))) H) (N := 0) X 7 rfl q512 q513 dX4_init_17 (by decide) (by decide) (by omega) (by dsimp only; omega) (by dsimp only; omega) (fun H H1 h ho a u => by have h9 := h.mk2 (e := .inl (.inl (kg_A G 7, 0, .inr (.inr (.inr (.inr (fun _ => none))))))) hg a ho u; rw [show (some (.inl (.inl (.inl (kg_A G 7, 0, .inr (.inr (.inr (.inr (fun _ => none)))))))) : Option kr_AE) = kr_al G [] from kr_al_nil] at h9; exact h9) (fun q2 => ?_)
  refine kj_and (fun hq2 => ?_)
  have hne2 : q2 ≠ q := fun z => by rw [z, kr_up_s] at hq2; cases hq2
  have hq3 : kr_up Z (20, q_5) kr_l0 (20, q2) = none := by rw [kr_up_n (kr_ne20 hne2)] at hq2; exact hq2
  have hne3 : q2 ≠ q_5 := fun z => by rw [z, kr_up_s] at hq3; cases hq3
  have hq4 : Z (20, q2) = none := by rw [kr_up_n (kr_ne20 hne3)] at hq3; exact hq3
  rw [kr_up_sw (kr_ne20 hne2)]
  have hz3 : kr_up (kr_up (kr_up Z (20, q_5) kr_l0) (20, q2) (kr_al G [])) (20, q) (kr_o 3 [.ref q_5, .null]) (20, q) = kr_o 3 [.ref q_5, .null] := kr_up_s
  refine kj_put X kc_X4 1 (by decide) q517 (Or.inl rfl) rfl dX4_init_20 (by first | rfl | exact kr_nar _ _ | exact kr_narb _) (by first | rfl | exact kr_fitr _ _ | exact kr_fitb _) (Nat.le_of_ble_eq_true rfl) (fun H h => h.own (kc_Z2.trans hz3)) (fun H H1 h a u => by have h9 := h.updz (fs' := [.ref q_5, .ref q2]) hz3 a u; rw [kr_up_up] at h9; exact h9) ?_
  exact kj_vret X dX4_init_23 (by omega) (by omega) (fun H h => ⟨(q_5, q2), ⟨rfl, h_q_5, hq4, Ne.symm hne3⟩, h⟩)
theorem ct_X18_init (hF : kr_F G l) (hg : kr_gok g) {q : Nat} (hz : Z (20, q) = kr_o 7 [.null, .null, .null, .null]) : kr_T G l yX18_init (ws_ yX18_init cX18_init 1 (Option.none : Option Jvm.ClassFile.FieldType)) 5 300 [.ref (gA g (20, q))] (kr_S G (gA g) (kr_cells G g S Z)) 3 300 (fun v H => ∃ a : Nat × Nat × Nat, (v = none ∧ (Z (20, a.1) = none ∧ Z (20, a.2.1) = none ∧ Z (20, a.2.2) = none) ∧ a.1 ≠ a.2.1 ∧ a.1 ≠ a.2.2 ∧ a.2.1 ≠ a.2.2) ∧ kr_S G (gA g) (kr_cells G g S (kr_up (kr_up (kr_up (kr_up Z (20, a.1) (kr_ai G 0 100 (fun _ => 0))) (20, a.2.1) (kr_ai G 0 100 (fun _ => 0))) (20, a.2.2) (kr_ai G 1 100 (fun _ => 0))) (20, q) (kr_o 7 [.ref a.1, .ref a.2.1, .ref a.2.2, .null]))) H) kr_no := by
  refine kr_T.of (by decide +kernel) hF (by simp [Value.category]) (Nat.le_of_ble_eq_true rfl) (fun x hx X => ?_)
  refine kj_aload_n X dX18_init_0 rfl rfl (by first | exact ⟨some _, rfl⟩ | exact ⟨none, rfl⟩ | exact ⟨_, rfl⟩) ?_
  refine kj_objInit X q1474 q95 q96 dX18_init_1 (Nat.le_of_ble_eq_true rfl) (by simp [Value.category, kr_cat]) ?_
  refine kj_aload_n X dX18_init_4 rfl rfl (by first | exact ⟨some _, rfl⟩ | exact ⟨none, rfl⟩ | exact ⟨_, rfl⟩) ?_
  refine kj_bipush (v := 100) X dX18_init_5 (by decide) ?_
  refine kj_newa (Pn := fun q2 H => Z (20, q2) = none ∧ kr_S G (gA g) (kr_cells G g S (kr_up Z (20, q2) (kr_ai G 0 100 (fun _ => 0)))) H) (a0 := (100, .inl (fun _ => 0))) (N := 100) X 0 rfl rfl q1492 (fun _ => rfl) dX18_init_7 (by decide) (by decide) (by decide) (by dsimp only; omega) (by dsimp only; omega) (fun H H1 h ho a u => h.mk2 (e := .inl (.inl (kg_A G 0, 100, .inl (fun _ => 0)))) hg a ho u) (fun q1 => ?_)
  refine kj_and (fun hq1 => ?_)
  have n1 := kr_new20 hz (fun z => by cases z) hq1
  have hz1 : kr_up Z (20, q1) (kr_ai G 0 100 (fun _ => 0)) (20, q) = kr_o 7 [.null, .null, .null, .null] := by rw [kr_up_n (kr_ne20 (Ne.symm n1))]; exact hz
  refine kj_putF X kc_X18 0 (by decide) q1475 rfl rfl rfl rfl dX18_init_9 (by first | rfl | exact kr_nar _ _ | exact kr_narb _) (by first | rfl | exact kr_fitr _ _ | exact kr_fitb _) (Nat.le_of_ble_eq_true rfl) (fun H h => h.own (kc_Z2.trans hz1)) (fun H H1 h a u => h.updz (fs' := [.ref q1, .null, .null, .null]) hz1 a u) ?_
  refine kj_aload_n X dX18_init_12 rfl rfl (by first | exact ⟨some _, rfl⟩ | exact ⟨none, rfl⟩ | exact ⟨_, rfl⟩) ?_
  refine kj_bipush (v := 100) X dX18_init_13 (by decide) ?_
  refine kj_newa (Pn := fun q2 H => kr_up (kr_up Z (20, q1) (kr_ai G 0 100 (fun _ => 0))) (20, q) (kr_o 7 [.ref q1, .null, .null, .null]) (20, q2) = none ∧ kr_S G (gA g) (kr_cells G g S (kr_up (kr_up (kr_up Z (20, q1) (kr_ai G 0 100 (fun _ => 0))) (20, q) (kr_o 7 [.ref q1, .null, .null, .null])) (20, q2) (kr_ai G 0 100 (fun _ => 0)))) H) (a0 := (100, .inl (fun _ => 0))) (N := 100) X 0 rfl rfl q1492 (fun _ => rfl) dX18_init_15 (by decide) (by decide) (by decide) (by dsimp only; omega) (by dsimp only; omega) (fun H H1 h ho a u => h.mk2 (e := .inl (.inl (kg_A G 0, 100, .inl (fun _ => 0)))) hg a ho u) (fun q2 => ?_)
  refine kj_and (fun hq2 => ?_)
  have n2 : q2 ≠ q := fun z => by rw [z, kr_up_s] at hq2; cases hq2
  have hq2' : kr_up Z (20, q1) (kr_ai G 0 100 (fun _ => 0)) (20, q2) = none := by rw [kr_up_n (kr_ne20 n2)] at hq2; exact hq2
  have n3 : q2 ≠ q1 := fun z => by rw [z, kr_up_s] at hq2'; cases hq2'
  have hq2z : Z (20, q2) = none := by rw [kr_up_n (kr_ne20 n3)] at hq2'; exact hq2'
  rw [kr_up_sw (kr_ne20 n2)]
  have hz2 : kr_up (kr_up (kr_up Z (20, q1) (kr_ai G 0 100 (fun _ => 0))) (20, q2) (kr_ai G 0 100 (fun _ => 0))) (20, q) (kr_o 7 [.ref q1, .null, .null, .null]) (20, q) = kr_o 7 [.ref q1, .null, .null, .null] := kr_up_s
  refine kj_putF X kc_X18 1 (by decide) q1477 rfl rfl rfl rfl dX18_init_17 (by first | rfl | exact kr_nar _ _ | exact kr_narb _) (by first | rfl | exact kr_fitr _ _ | exact kr_fitb _) (Nat.le_of_ble_eq_true rfl) (fun H h => h.own (kc_Z2.trans hz2)) (fun H H1 h a u => by have h9 := h.updz (fs' := [.ref q1, .ref q2, .null, .null]) hz2 a u; rw [kr_up_up] at h9; exact h9) ?_
  refine kj_aload_n X dX18_init_20 rfl rfl (by first | exact ⟨some _, rfl⟩ | exact ⟨none, rfl⟩ | exact ⟨_, rfl⟩) ?_
  refine kj_bipush (v := 100) X dX18_init_21 (by decide) ?_
  refine kj_newa (Pn := fun q3 H => kr_up (kr_up (kr_up Z (20, q1) (kr_ai G 0 100 (fun _ => 0))) (20, q2) (kr_ai G 0 100 (fun _ => 0))) (20, q) (kr_o 7 [.ref q1, .ref q2, .null, .null]) (20, q3) = none ∧ kr_S G (gA g) (kr_cells G g S (kr_up (kr_up (kr_up (kr_up Z (20, q1) (kr_ai G 0 100 (fun _ => 0))) (20, q2) (kr_ai G 0 100 (fun _ => 0))) (20, q) (kr_o 7 [.ref q1, .ref q2, .null, .null])) (20, q3) (kr_ai G 1 100 (fun _ => 0)))) H) (a0 := (100, .inl (fun _ => 0))) (N := 100) X 1 rfl rfl q1493 (fun _ => rfl) dX18_init_23 (by decide) (by decide) (by decide) (by dsimp only; omega) (by dsimp only; omega) (fun H H1 h ho a u => h.mk2 (e := .inl (.inl (kg_A G 1, 100, .inl (fun _ => 0)))) hg a ho u) (fun q3 => ?_)
  refine kj_and (fun hq3 => ?_)
  have n4 : q3 ≠ q := fun z => by rw [z, kr_up_s] at hq3; cases hq3
  have hq3' : kr_up (kr_up Z (20, q1) (kr_ai G 0 100 (fun _ => 0))) (20, q2) (kr_ai G 0 100 (fun _ => 0)) (20, q3) = none := by rw [kr_up_n (kr_ne20 n4)] at hq3; exact hq3
  have n5 : q3 ≠ q2 := fun z => by rw [z, kr_up_s] at hq3'; cases hq3'
  have hq3'' : kr_up Z (20, q1) (kr_ai G 0 100 (fun _ => 0)) (20, q3) = none := by rw [kr_up_n (kr_ne20 n5)] at hq3'; exact hq3'
  have n6 : q3 ≠ q1 := fun z => by rw [z, kr_up_s] at hq3''; cases hq3''
  have hq3z : Z (20, q3) = none := by rw [kr_up_n (kr_ne20 n6)] at hq3''; exact hq3''
  rw [kr_up_sw (kr_ne20 n4)]
  have hz3 : kr_up (kr_up (kr_up (kr_up Z (20, q1) (kr_ai G 0 100 (fun _ => 0))) (20, q2) (kr_ai G 0 100 (fun _ => 0))) (20, q3) (kr_ai G 1 100 (fun _ => 0))) (20, q) (kr_o 7 [.ref q1, .ref q2, .null, .null]) (20, q) = kr_o 7 [.ref q1, .ref q2, .null, .null] := kr_up_s
  refine kj_putF X kc_X18 2 (by decide) q1479 rfl rfl rfl rfl dX18_init_25 (by first | rfl | exact kr_nar _ _ | exact kr_narb _) (by first | rfl | exact kr_fitr _ _ | exact kr_fitb _) (Nat.le_of_ble_eq_true rfl) (fun H h => h.own (kc_Z2.trans hz3)) (fun H H1 h a u => by have h9 := h.updz (fs' := [.ref q1, .ref q2, .ref q3, .null]) hz3 a u; rw [kr_up_up] at h9; exact h9) ?_
  exact kj_vret X dX18_init_28 (by omega) (by omega) (fun H h => ⟨(q1, q2, q3), ⟨rfl, ⟨hq1, hq2z, hq3z⟩, Ne.symm n3, Ne.symm n6, Ne.symm n5⟩, h⟩)
end
