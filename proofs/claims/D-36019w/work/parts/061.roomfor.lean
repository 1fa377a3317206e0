/-! roomFor (printed by tools/gen_line3.py) -/
set_option maxRecDepth 100000
section
variable {G : kr_G} {l : Launch} {g g' : kr_Gh} {S S' : kr_St} {Z Z' : kr_Ro → Option kr_AE}
theorem ct_X1_roomFor_ (hF : kr_F G l) (hg : kr_gok g) (c : Int32) {m : Nat} (hm : m ≤ 100) (Po : Option Value → Heap → Prop) (hno : fKind c = 0 → ∀ H, kr_S G (gA g) (kr_cells G g S Z) H → Po (some .null) H) (hyes : ∀ k, fKind c = k → k ≠ 0 → ∀ q, Z (40, q) = none → ∀ H, kr_S G (gA g) (kr_cells G g S (kr_up Z (40, q) (kr_rm G k m (fun _ => none)))) H → Po (some (.ref q)) H) : kr_T G l yX1_roomFor (ws_ yX1_roomFor cX1_roomFor 2 (Option.some (Jvm.ClassFile.FieldType.array (Jvm.ClassFile.FieldType.object "KioskReel$Line")))) 2 100 [.int c, .int (nI m)] (kr_S G (gA g) (kr_cells G g S Z)) 1 m Po kr_no := by
  refine kr_T.of (by decide +kernel) hF (by simp [Value.category]) (Nat.le_of_ble_eq_true rfl) (fun x hx X => ?_)
  refine kj_iload_n X dX1_roomFor_0 rfl rfl ?_
  by_cases h115 : c = 115
  · subst h115
    have hk : fKind 115 = 8 := rfl
    refine kj_tableIn X 100 dX1_roomFor_1 (by decide) (by decide) (by rfl) (by decide) ?_
    refine kj_iload_n X dX1_roomFor_100 rfl rfl ?_
    refine kj_anew (Pn := fun q H => Z (40, q) = none ∧ kr_S G (gA g) (kr_cells G g S (kr_up Z (40, q) (kr_rm G 8 m (fun _ => none)))) H) (N := m) X 8 rfl q611 q1018 dX1_roomFor_101 (nI_pos (by omega)) (nI_clamp (by omega)) (by omega) (by dsimp only; omega) (by dsimp only; omega) (fun H H1 h ho a u => h.mk (e := .inl (.inl (kg_A G 8, m, .inr (.inr (.inr (.inr (fun _ => none))))))) hg.1 a ho u) (fun q => ?_)
    refine kj_and (fun hq => ?_)
    exact kj_aret X (Or.inr ⟨_, rfl⟩) (by first | exact ⟨some _, rfl⟩ | exact ⟨none, rfl⟩ | exact ⟨_, rfl⟩) dX1_roomFor_104 (by omega) (by omega) (fun H h => hyes 8 hk (by decide) q hq H h)
  by_cases h119 : c = 119
  · subst h119
    have hk : fKind 119 = 9 := rfl
    refine kj_tableIn X 105 dX1_roomFor_1 (by decide) (by decide) (by rfl) (by decide) ?_
    refine kj_iload_n X dX1_roomFor_105 rfl rfl ?_
    refine kj_anew (Pn := fun q H => Z (40, q) = none ∧ kr_S G (gA g) (kr_cells G g S (kr_up Z (40, q) (kr_rm G 9 m (fun _ => none)))) H) (N := m) X 9 rfl q633 q1019 dX1_roomFor_106 (nI_pos (by omega)) (nI_clamp (by omega)) (by omega) (by dsimp only; omega) (by dsimp only; omega) (fun H H1 h ho a u => h.mk (e := .inl (.inl (kg_A G 9, m, .inr (.inr (.inr (.inr (fun _ => none))))))) hg.1 a ho u) (fun q => ?_)
    refine kj_and (fun hq => ?_)
    exact kj_aret X (Or.inr ⟨_, rfl⟩) (by first | exact ⟨some _, rfl⟩ | exact ⟨none, rfl⟩ | exact ⟨_, rfl⟩) dX1_roomFor_109 (by omega) (by omega) (fun H h => hyes 9 hk (by decide) q hq H h)
  by_cases h100 : c = 100
  · subst h100
    have hk : fKind 100 = 10 := rfl
    refine kj_tableIn X 110 dX1_roomFor_1 (by decide) (by decide) (by rfl) (by decide) ?_
    refine kj_iload_n X dX1_roomFor_110 rfl rfl ?_
    refine kj_anew (Pn := fun q H => Z (40, q) = none ∧ kr_S G (gA g) (kr_cells G g S (kr_up Z (40, q) (kr_rm G 10 m (fun _ => none)))) H) (N := m) X 10 rfl q641 q1020 dX1_roomFor_111 (nI_pos (by omega)) (nI_clamp (by omega)) (by omega) (by dsimp only; omega) (by dsimp only; omega) (fun H H1 h ho a u => h.mk (e := .inl (.inl (kg_A G 10, m, .inr (.inr (.inr (.inr (fun _ => none))))))) hg.1 a ho u) (fun q => ?_)
    refine kj_and (fun hq => ?_)
    exact kj_aret X (Or.inr ⟨_, rfl⟩) (by first | exact ⟨some _, rfl⟩ | exact ⟨none, rfl⟩ | exact ⟨_, rfl⟩) dX1_roomFor_114 (by omega) (by omega) (fun H h => hyes 10 hk (by decide) q hq H h)
  by_cases h102 : c = 102
  · subst h102
    have hk : fKind 102 = 11 := rfl
    refine kj_tableIn X 115 dX1_roomFor_1 (by decide) (by decide) (by rfl) (by decide) ?_
    refine kj_iload_n X dX1_roomFor_115 rfl rfl ?_
    refine kj_anew (Pn := fun q H => Z (40, q) = none ∧ kr_S G (gA g) (kr_cells G g S (kr_up Z (40, q) (kr_rm G 11 m (fun _ => none)))) H) (N := m) X 11 rfl q649 q1021 dX1_roomFor_116 (nI_pos (by omega)) (nI_clamp (by omega)) (by omega) (by dsimp only; omega) (by dsimp only; omega) (fun H H1 h ho a u => h.mk (e := .inl (.inl (kg_A G 11, m, .inr (.inr (.inr (.inr (fun _ => none))))))) hg.1 a ho u) (fun q => ?_)
    refine kj_and (fun hq => ?_)
    exact kj_aret X (Or.inr ⟨_, rfl⟩) (by first | exact ⟨some _, rfl⟩ | exact ⟨none, rfl⟩ | exact ⟨_, rfl⟩) dX1_roomFor_119 (by omega) (by omega) (fun H h => hyes 11 hk (by decide) q hq H h)
  by_cases h103 : c = 103
  · subst h103
    have hk : fKind 103 = 12 := rfl
    refine kj_tableIn X 120 dX1_roomFor_1 (by decide) (by decide) (by rfl) (by decide) ?_
    refine kj_iload_n X dX1_roomFor_120 rfl rfl ?_
    refine kj_anew (Pn := fun q H => Z (40, q) = none ∧ kr_S G (gA g) (kr_cells G g S (kr_up Z (40, q) (kr_rm G 12 m (fun _ => none)))) H) (N := m) X 12 rfl q657 q1022 dX1_roomFor_121 (nI_pos (by omega)) (nI_clamp (by omega)) (by omega) (by dsimp only; omega) (by dsimp only; omega) (fun H H1 h ho a u => h.mk (e := .inl (.inl (kg_A G 12, m, .inr (.inr (.inr (.inr (fun _ => none))))))) hg.1 a ho u) (fun q => ?_)
    refine kj_and (fun hq => ?_)
    exact kj_aret X (Or.inr ⟨_, rfl⟩) (by first | exact ⟨some _, rfl⟩ | exact ⟨none, rfl⟩ | exact ⟨_, rfl⟩) dX1_roomFor_124 (by omega) (by omega) (fun H h => hyes 12 hk (by decide) q hq H h)
  by_cases h118 : c = 118
  · subst h118
    have hk : fKind 118 = 13 := rfl
    refine kj_tableIn X 125 dX1_roomFor_1 (by decide) (by decide) (by rfl) (by decide) ?_
    refine kj_iload_n X dX1_roomFor_125 rfl rfl ?_
    refine kj_anew (Pn := fun q H => Z (40, q) = none ∧ kr_S G (gA g) (kr_cells G g S (kr_up Z (40, q) (kr_rm G 13 m (fun _ => none)))) H) (N := m) X 13 rfl q665 q1023 dX1_roomFor_126 (nI_pos (by omega)) (nI_clamp (by omega)) (by omega) (by dsimp only; omega) (by dsimp only; omega) (fun H H1 h ho a u => h.mk (e := .inl (.inl (kg_A G 13, m, .inr (.inr (.inr (.inr (fun _ => none))))))) hg.1 a ho u) (fun q => ?_)
    refine kj_and (fun hq => ?_)
    exact kj_aret X (Or.inr ⟨_, rfl⟩) (by first | exact ⟨some _, rfl⟩ | exact ⟨none, rfl⟩ | exact ⟨_, rfl⟩) dX1_roomFor_129 (by omega) (by omega) (fun H h => hyes 13 hk (by decide) q hq H h)
  by_cases h108 : c = 108
  · subst h108
    have hk : fKind 108 = 14 := rfl
    refine kj_tableIn X 130 dX1_roomFor_1 (by decide) (by decide) (by rfl) (by decide) ?_
    refine kj_iload_n X dX1_roomFor_130 rfl rfl ?_
    refine kj_anew (Pn := fun q H => Z (40, q) = none ∧ kr_S G (gA g) (kr_cells G g S (kr_up Z (40, q) (kr_rm G 14 m (fun _ => none)))) H) (N := m) X 14 rfl q673 q1024 dX1_roomFor_131 (nI_pos (by omega)) (nI_clamp (by omega)) (by omega) (by dsimp only; omega) (by dsimp only; omega) (fun H H1 h ho a u => h.mk (e := .inl (.inl (kg_A G 14, m, .inr (.inr (.inr (.inr (fun _ => none))))))) hg.1 a ho u) (fun q => ?_)
    refine kj_and (fun hq => ?_)
    exact kj_aret X (Or.inr ⟨_, rfl⟩) (by first | exact ⟨some _, rfl⟩ | exact ⟨none, rfl⟩ | exact ⟨_, rfl⟩) dX1_roomFor_134 (by omega) (by omega) (fun H h => hyes 14 hk (by decide) q hq H h)
  by_cases h99 : c = 99
  · subst h99
    have hk : fKind 99 = 15 := rfl
    refine kj_tableIn X 135 dX1_roomFor_1 (by decide) (by decide) (by rfl) (by decide) ?_
    refine kj_iload_n X dX1_roomFor_135 rfl rfl ?_
    refine kj_anew (Pn := fun q H => Z (40, q) = none ∧ kr_S G (gA g) (kr_cells G g S (kr_up Z (40, q) (kr_rm G 15 m (fun _ => none)))) H) (N := m) X 15 rfl q681 q1025 dX1_roomFor_136 (nI_pos (by omega)) (nI_clamp (by omega)) (by omega) (by dsimp only; omega) (by dsimp only; omega) (fun H H1 h ho a u => h.mk (e := .inl (.inl (kg_A G 15, m, .inr (.inr (.inr (.inr (fun _ => none))))))) hg.1 a ho u) (fun q => ?_)
    refine kj_and (fun hq => ?_)
    exact kj_aret X (Or.inr ⟨_, rfl⟩) (by first | exact ⟨some _, rfl⟩ | exact ⟨none, rfl⟩ | exact ⟨_, rfl⟩) dX1_roomFor_139 (by omega) (by omega) (fun H h => hyes 15 hk (by decide) q hq H h)
  have hnot : ∀ w ∈ ([115, 119, 100, 102, 103, 118, 108, 99] : List Int32), c ≠ w := by
    intro w hw
    simp only [List.mem_cons, List.not_mem_nil, or_false] at hw
    rcases hw with rfl | rfl | rfl | rfl | rfl | rfl | rfl | rfl <;> assumption
  refine kj_sw X 140 dX1_roomFor_1 hnot (by decide) (by decide) ?_
  refine kj_iload_n X dX1_roomFor_140 rfl rfl ?_
  refine kj_bipush (v := 112) X dX1_roomFor_141 (by decide) ?_
  refine kj_icmp_ne X 153 dX1_roomFor_143 (by decide) (fun c_143 => ?_) (fun c_143 => ?_)
  · have hk : fKind c = 0 := by
      unfold fKind
      rw [if_neg h115, if_neg h119, if_neg h100, if_neg h102, if_neg h103, if_neg h118, if_neg h108, if_neg h99, if_neg c_143]
    refine kj_null X dX1_roomFor_153 ?_
    exact kj_aret X (Or.inr ⟨_, rfl⟩) (by first | exact ⟨some _, rfl⟩ | exact ⟨none, rfl⟩ | exact ⟨_, rfl⟩) dX1_roomFor_154 (by omega) (by omega) (fun H h => hno hk H h)
  subst c_143
  have hk : fKind 112 = 16 := rfl
  refine kj_iload_n X dX1_roomFor_146 rfl rfl ?_
  refine kj_anew (Pn := fun q H => Z (40, q) = none ∧ kr_S G (gA g) (kr_cells G g S (kr_up Z (40, q) (kr_rm G 16 m (fun _ => none)))) H) (N := m) X 16 rfl q689 q1026 dX1_roomFor_147 (nI_pos (by omega)) (nI_clamp (by omega)) (by omega) (by dsimp only; omega) (by dsimp only; omega) (fun H H1 h ho a u => h.mk (e := .inl (.inl (kg_A G 16, m, .inr (.inr (.inr (.inr (fun _ => none))))))) hg.1 a ho u) (fun q => ?_)
  refine kj_and (fun hq => ?_)
  refine kj_goto X 154 dX1_roomFor_150 (by decide) ?_
  exact kj_aret X (Or.inr ⟨_, rfl⟩) (by first | exact ⟨some _, rfl⟩ | exact ⟨none, rfl⟩ | exact ⟨_, rfl⟩) dX1_roomFor_154 (by omega) (by omega) (fun H h => hyes 16 hk (by decide) q hq H h)
theorem ct_X1_roomFor0 (hF : kr_F G l) (hg : kr_gok g) {c : Int32} {m : Nat} (hm : m ≤ 100) (h : fKind c = 0) : kr_T G l yX1_roomFor (ws_ yX1_roomFor cX1_roomFor 2 (Option.some (Jvm.ClassFile.FieldType.array (Jvm.ClassFile.FieldType.object "KioskReel$Line")))) 2 100 [.int c, .int (nI m)] (kr_S G (gA g) (kr_cells G g S Z)) 1 m (fun v H => v = some .null ∧ kr_S G (gA g) (kr_cells G g S Z) H) kr_no :=
  ct_X1_roomFor_ hF hg c hm _ (fun _ H h => ⟨rfl, h⟩) (fun k e hk => absurd (e.symm.trans h) hk)
theorem ct_X1_roomFor (hF : kr_F G l) (hg : kr_gok g) {c : Int32} {m k : Nat} (hm : m ≤ 100) (h : fKind c = k) (hk : k ≠ 0) : kr_T G l yX1_roomFor (ws_ yX1_roomFor cX1_roomFor 2 (Option.some (Jvm.ClassFile.FieldType.array (Jvm.ClassFile.FieldType.object "KioskReel$Line")))) 2 100 [.int c, .int (nI m)] (kr_S G (gA g) (kr_cells G g S Z)) 1 m (fun v H => ∃ q, (v = some (.ref q) ∧ Z (40, q) = none) ∧ kr_S G (gA g) (kr_cells G g S (kr_up Z (40, q) (kr_rm G k m (fun _ => none)))) H) kr_no :=
  ct_X1_roomFor_ hF hg c hm _ (fun e => absurd (h.symm.trans e) hk) (fun k' e hk' q hq H h1 => by rw [h] at e; cases e; exact ⟨q, ⟨rfl, hq⟩, h1⟩)
end
