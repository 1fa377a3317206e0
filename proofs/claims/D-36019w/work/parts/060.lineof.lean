/-! lineOf and roomFor (printed by tools/gen_line2.py) -/
set_option maxRecDepth 100000
/-- the class of the lines of a kind; 0: no kind -/
def fKind (c : Int32) : Nat := if c = 115 then 8 else if c = 119 then 9 else if c = 100 then 10 else if c = 102 then 11 else if c = 103 then 12 else if c = 118 then 13 else if c = 108 then 14 else if c = 99 then 15 else if c = 112 then 16 else 0
def fLow (k : Nat) : Int32 := if k = 9 then 1 else 0
def fHigh (k : Nat) : Int32 := if k = 8 ∨ k = 15 then 99 else if k = 10 ∨ k = 11 then 5 else if k = 16 then 7 else 20
def fLineOf (c i : Int32) : Option Nat := if fKind c ≠ 0 ∧ fLow (fKind c) ≤ i ∧ i ≤ fHigh (fKind c) then some (fKind c) else none
theorem fKind_in {c : Int32} (h : fKind c ≠ 0) : 8 ≤ fKind c ∧ fKind c ≤ 16 := by
  unfold fKind at h ⊢
  repeat' split
  all_goals first | omega | (exfalso; simp_all)
theorem kr_swn {v : Int32} (h : ∀ w ∈ ([115, 119, 100, 102, 103, 118, 108, 99] : List Int32), v ≠ w) (h1 : ¬ v.toInt < 99) (h2 : ¬ 119 < v.toInt) : ∃ n : Fin 21, (v.toInt - 99).toNat = n.val ∧ n.val ∉ [16, 20, 1, 3, 4, 19, 9, 0] := by
  have hw : ∀ w ∈ ([115, 119, 100, 102, 103, 118, 108, 99] : List Int32), v.toInt ≠ w.toInt := fun w hw e => h w hw (Int32.toInt_inj.mp e)
  refine ⟨⟨(v.toInt - 99).toNat, by omega⟩, rfl, fun hm => ?_⟩
  simp only [List.mem_cons, List.not_mem_nil, or_false] at hm
  have e115 : v.toInt ≠ 115 := hw 115 (by simp)
  have e119 : v.toInt ≠ 119 := hw 119 (by simp)
  have e100 : v.toInt ≠ 100 := hw 100 (by simp)
  have e102 : v.toInt ≠ 102 := hw 102 (by simp)
  have e103 : v.toInt ≠ 103 := hw 103 (by simp)
  have e118 : v.toInt ≠ 118 := hw 118 (by simp)
  have e108 : v.toInt ≠ 108 := hw 108 (by simp)
  have e99 : v.toInt ≠ 99 := hw 99 (by simp)
  omega
section
variable {G : kr_G} {x : kr_X} {y : MethodName} {cc : ByteArray} {nL : Nat} {ret : Option FieldType} {rm : Room} {hh : List (Nat × Nat × Nat × Nat)} {Q : State → Prop} {P P' : Heap → Prop} {cs ss pc : Nat} {lv lv' : List (Option Value)} {st : List Value}
/-- the switch, behind the eight letters -/
theorem kj_sw (X : kr_C G x y cc nL ret rm hh) {dflt : Int} {offs : Array Int} {len : Nat} {v : Int32} (tgt : Nat) (hdg : decode cc pc = .ok (.tableswitch dflt 99 119 offs, len)) (h : ∀ w ∈ ([115, 119, 100, 102, 103, 118, 108, 99] : List Int32), v ≠ w) (ho : ∀ n : Fin 21, n.val ∉ [16, 20, 1, 3, 4, 19, 9, 0] → offs[n.val]? = some dflt) (ht : (pc : Int) + dflt = (tgt : Int)) (k : kr_J G x nL Q P cs ss tgt lv st) : kr_J G x nL Q P cs ss pc lv (.int v :: st) := by
  by_cases h1 : v.toInt < 99 ∨ 119 < v.toInt
  · exact kj_tableOut X tgt hdg h1 ht k
  · obtain ⟨n, e, hn⟩ := kr_swn h (fun z => h1 (Or.inl z)) (fun z => h1 (Or.inr z))
    exact kj_tableIn X tgt hdg (fun z => h1 (Or.inl z)) (fun z => h1 (Or.inr z)) (by rw [e]; exact ho n hn) ht k
end
section
variable {G : kr_G} {l : Launch} {g g' : kr_Gh} {S S' : kr_St} {Z Z' : kr_Ro → Option kr_AE}
theorem ct_X1_lineOf_ (hF : kr_F G l) (hg : kr_gok g) (c i : Int32) (Po : Option Value → Heap → Prop) (hno : fLineOf c i = none → ∀ H, kr_S G (gA g) (kr_cells G g S Z) H → Po (some .null) H) (hyes : ∀ k, fLineOf c i = some k → ∀ q, Z (20, q) = none → ∀ H, kr_S G (gA g) (kr_cells G g S (kr_up Z (20, q) (kr_o k [.int i]))) H → Po (some (.ref q)) H) : kr_T G l yX1_lineOf (ws_ yX1_lineOf cX1_lineOf 2 (Option.some (Jvm.ClassFile.FieldType.object "KioskReel$Line"))) 5 300 [.int c, .int i] (kr_S G (gA g) (kr_cells G g S Z)) 1 1 Po kr_no := by
  refine kr_T.of (by decide +kernel) hF (by simp [Value.category]) (Nat.le_of_ble_eq_true rfl) (fun x hx X => ?_)
  refine kj_iload_n X dX1_lineOf_0 rfl rfl ?_
  by_cases h115 : c = 115
  · subst h115
    have hk0 : fKind 115 = 8 := rfl
    refine kj_tableIn X 100 dX1_lineOf_1 (by decide) (by decide) (by rfl) (by decide) ?_
    have hk := hk0
    refine kj_iload_n X dX1_lineOf_100 rfl rfl ?_
    refine kj_iconst (v := 0) X dX1_lineOf_101 (by decide) ?_
    refine kj_bipush (v := 99) X dX1_lineOf_102 (by decide) ?_
    refine kj_callS X 3 (ct_X1_isIn X.F i 0 99) (lw_S q608 q609 q43 q610) ⟨by decide, by decide, by decide +kernel⟩ dX1_lineOf_104 rfl rfl (by first | exact Nat.le_of_ble_eq_true rfl | simp [kr_cat, Value.category]) ⟨Nat.le_of_ble_eq_true rfl, Nat.le_of_ble_eq_true rfl⟩ ⟨by dsimp only; omega, by dsimp only; omega⟩ (fun E => kjx_no) (fun v_104 => ?_)
    refine kj_and (fun e_104 => ?_)
    subst e_104
    refine kj_if_eq X 121 dX1_lineOf_107 (by decide) (fun c_107 => ?_) (fun c_107 => ?_)
    · have hf : ¬ (0 ≤ i ∧ i ≤ 99) := by simpa [kr_b] using c_107
      refine kj_null X dX1_lineOf_121 ?_
      exact kj_aret X (Or.inl ⟨_, rfl⟩) (by first | exact ⟨some _, rfl⟩ | exact ⟨none, rfl⟩ | exact ⟨_, rfl⟩) dX1_lineOf_122 (by omega) (by omega) (fun H h => hno (by unfold fLineOf; rw [hk]; exact if_neg (fun z => hf z.2)) H h)
    have hf : (0 ≤ i ∧ i ≤ 99) := by simpa [kr_b] using c_107
    refine kj_new (Pn := fun q H => Z (20, q) = none ∧ kr_S G (gA g) (kr_cells G g S (kr_up Z (20, q) (kr_o 8 [.int 0]))) H) (fs := [.int 0]) X kc_X6 q611 q612 q64 (fun j hj => by match j, hj with | 0, _ => rfl) dX1_lineOf_110 (by first | omega | (dsimp only; omega)) (by first | omega | (dsimp only; omega)) (fun H H1 h ho a u => h.mk2 hg a ho u) (fun q_110 => ?_)
    refine kj_and (fun h_q_110 => ?_)
    rw [show (Value.ref q_110) = Value.ref (gA g (20, q_110)) from by rw [(hg).2.2 q_110]]
    refine kj_dup X dX1_lineOf_113 (by first | rfl | exact kr_cat _) ?_
    refine kj_iload_n X dX1_lineOf_114 rfl rfl ?_
    refine kj_callI X 1 (ct_X6_init X.F hg (q := q_110) (i := i) (Z := kr_up Z (20, q_110) (kr_o 8 [.int 0])) kr_up_s) q615 q64 q613 q614 rfl ⟨by decide, by decide, by decide +kernel⟩ dX1_lineOf_115 rfl rfl (by first | exact Nat.le_of_ble_eq_true rfl | simp [kr_cat, Value.category]) ⟨Nat.le_of_ble_eq_true rfl, Nat.le_of_ble_eq_true rfl⟩ ⟨by dsimp only; omega, by dsimp only; omega⟩ (fun E => kjx_no) (fun v_115 => ?_)
    refine kj_and (fun e_115 => ?_)
    subst e_115
    rw [kr_up_up, hg.2.2 q_110]
    refine kj_goto X 122 dX1_lineOf_118 (by decide) ?_
    exact kj_aret X (Or.inl ⟨_, rfl⟩) (by first | exact ⟨some _, rfl⟩ | exact ⟨none, rfl⟩ | exact ⟨_, rfl⟩) dX1_lineOf_122 (by omega) (by omega) (fun H h => hyes 8 (by unfold fLineOf; rw [hk]; exact if_pos ⟨by decide, hf⟩) q_110 h_q_110 H h)
  by_cases h119 : c = 119
  · subst h119
    have hk0 : fKind 119 = 9 := rfl
    refine kj_tableIn X 123 dX1_lineOf_1 (by decide) (by decide) (by rfl) (by decide) ?_
    have hk := hk0
    refine kj_iload_n X dX1_lineOf_123 rfl rfl ?_
    refine kj_iconst (v := 1) X dX1_lineOf_124 (by decide) ?_
    refine kj_bipush (v := 20) X dX1_lineOf_125 (by decide) ?_
    refine kj_callS X 3 (ct_X1_isIn X.F i 1 20) (lw_S q608 q609 q43 q610) ⟨by decide, by decide, by decide +kernel⟩ dX1_lineOf_127 rfl rfl (by first | exact Nat.le_of_ble_eq_true rfl | simp [kr_cat, Value.category]) ⟨Nat.le_of_ble_eq_true rfl, Nat.le_of_ble_eq_true rfl⟩ ⟨by dsimp only; omega, by dsimp only; omega⟩ (fun E => kjx_no) (fun v_127 => ?_)
    refine kj_and (fun e_127 => ?_)
    subst e_127
    refine kj_if_eq X 144 dX1_lineOf_130 (by decide) (fun c_130 => ?_) (fun c_130 => ?_)
    · have hf : ¬ (1 ≤ i ∧ i ≤ 20) := by simpa [kr_b] using c_130
      refine kj_null X dX1_lineOf_144 ?_
      exact kj_aret X (Or.inl ⟨_, rfl⟩) (by first | exact ⟨some _, rfl⟩ | exact ⟨none, rfl⟩ | exact ⟨_, rfl⟩) dX1_lineOf_145 (by omega) (by omega) (fun H h => hno (by unfold fLineOf; rw [hk]; exact if_neg (fun z => hf z.2)) H h)
    have hf : (1 ≤ i ∧ i ≤ 20) := by simpa [kr_b] using c_130
    refine kj_new (Pn := fun q H => Z (20, q) = none ∧ kr_S G (gA g) (kr_cells G g S (kr_up Z (20, q) (kr_o 9 [.int 0]))) H) (fs := [.int 0]) X kc_X7 q633 q634 q65 (fun j hj => by match j, hj with | 0, _ => rfl) dX1_lineOf_133 (by first | omega | (dsimp only; omega)) (by first | omega | (dsimp only; omega)) (fun H H1 h ho a u => h.mk2 hg a ho u) (fun q_133 => ?_)
    refine kj_and (fun h_q_133 => ?_)
    rw [show (Value.ref q_133) = Value.ref (gA g (20, q_133)) from by rw [(hg).2.2 q_133]]
    refine kj_dup X dX1_lineOf_136 (by first | rfl | exact kr_cat _) ?_
    refine kj_iload_n X dX1_lineOf_137 rfl rfl ?_
    refine kj_callI X 1 (ct_X7_init X.F hg (q := q_133) (i := i) (Z := kr_up Z (20, q_133) (kr_o 9 [.int 0])) kr_up_s) q637 q65 q635 q636 rfl ⟨by decide, by decide, by decide +kernel⟩ dX1_lineOf_138 rfl rfl (by first | exact Nat.le_of_ble_eq_true rfl | simp [kr_cat, Value.category]) ⟨Nat.le_of_ble_eq_true rfl, Nat.le_of_ble_eq_true rfl⟩ ⟨by dsimp only; omega, by dsimp only; omega⟩ (fun E => kjx_no) (fun v_138 => ?_)
    refine kj_and (fun e_138 => ?_)
    subst e_138
    rw [kr_up_up, hg.2.2 q_133]
    refine kj_goto X 145 dX1_lineOf_141 (by decide) ?_
    exact kj_aret X (Or.inl ⟨_, rfl⟩) (by first | exact ⟨some _, rfl⟩ | exact ⟨none, rfl⟩ | exact ⟨_, rfl⟩) dX1_lineOf_145 (by omega) (by omega) (fun H h => hyes 9 (by unfold fLineOf; rw [hk]; exact if_pos ⟨by decide, hf⟩) q_133 h_q_133 H h)
  by_cases h100 : c = 100
  · subst h100
    have hk0 : fKind 100 = 10 := rfl
    refine kj_tableIn X 146 dX1_lineOf_1 (by decide) (by decide) (by rfl) (by decide) ?_
    have hk := hk0
    refine kj_iload_n X dX1_lineOf_146 rfl rfl ?_
    refine kj_iconst (v := 0) X dX1_lineOf_147 (by decide) ?_
    refine kj_iconst (v := 5) X dX1_lineOf_148 (by decide) ?_
    refine kj_callS X 3 (ct_X1_isIn X.F i 0 5) (lw_S q608 q609 q43 q610) ⟨by decide, by decide, by decide +kernel⟩ dX1_lineOf_149 rfl rfl (by first | exact Nat.le_of_ble_eq_true rfl | simp [kr_cat, Value.category]) ⟨Nat.le_of_ble_eq_true rfl, Nat.le_of_ble_eq_true rfl⟩ ⟨by dsimp only; omega, by dsimp only; omega⟩ (fun E => kjx_no) (fun v_149 => ?_)
    refine kj_and (fun e_149 => ?_)
    subst e_149
    refine kj_if_eq X 166 dX1_lineOf_152 (by decide) (fun c_152 => ?_) (fun c_152 => ?_)
    · have hf : ¬ (0 ≤ i ∧ i ≤ 5) := by simpa [kr_b] using c_152
      refine kj_null X dX1_lineOf_166 ?_
      exact kj_aret X (Or.inl ⟨_, rfl⟩) (by first | exact ⟨some _, rfl⟩ | exact ⟨none, rfl⟩ | exact ⟨_, rfl⟩) dX1_lineOf_167 (by omega) (by omega) (fun H h => hno (by unfold fLineOf; rw [hk]; exact if_neg (fun z => hf z.2)) H h)
    have hf : (0 ≤ i ∧ i ≤ 5) := by simpa [kr_b] using c_152
    refine kj_new (Pn := fun q H => Z (20, q) = none ∧ kr_S G (gA g) (kr_cells G g S (kr_up Z (20, q) (kr_o 10 [.int 0]))) H) (fs := [.int 0]) X kc_X8 q641 q642 q66 (fun j hj => by match j, hj with | 0, _ => rfl) dX1_lineOf_155 (by first | omega | (dsimp only; omega)) (by first | omega | (dsimp only; omega)) (fun H H1 h ho a u => h.mk2 hg a ho u) (fun q_155 => ?_)
    refine kj_and (fun h_q_155 => ?_)
    rw [show (Value.ref q_155) = Value.ref (gA g (20, q_155)) from by rw [(hg).2.2 q_155]]
    refine kj_dup X dX1_lineOf_158 (by first | rfl | exact kr_cat _) ?_
    refine kj_iload_n X dX1_lineOf_159 rfl rfl ?_
    refine kj_callI X 1 (ct_X8_init X.F hg (q := q_155) (i := i) (Z := kr_up Z (20, q_155) (kr_o 10 [.int 0])) kr_up_s) q645 q66 q643 q644 rfl ⟨by decide, by decide, by decide +kernel⟩ dX1_lineOf_160 rfl rfl (by first | exact Nat.le_of_ble_eq_true rfl | simp [kr_cat, Value.category]) ⟨Nat.le_of_ble_eq_true rfl, Nat.le_of_ble_eq_true rfl⟩ ⟨by dsimp only; omega, by dsimp only; omega⟩ (fun E => kjx_no) (fun v_160 => ?_)
    refine kj_and (fun e_160 => ?_)
    subst e_160
    rw [kr_up_up, hg.2.2 q_155]
    refine kj_goto X 167 dX1_lineOf_163 (by decide) ?_
    exact kj_aret X (Or.inl ⟨_, rfl⟩) (by first | exact ⟨some _, rfl⟩ | exact ⟨none, rfl⟩ | exact ⟨_, rfl⟩) dX1_lineOf_167 (by omega) (by omega) (fun H h => hyes 10 (by unfold fLineOf; rw [hk]; exact if_pos ⟨by decide, hf⟩) q_155 h_q_155 H h)
  by_cases h102 : c = 102
  · subst h102
    have hk0 : fKind 102 = 11 := rfl
    refine kj_tableIn X 168 dX1_lineOf_1 (by decide) (by decide) (by rfl) (by decide) ?_
    have hk := hk0
    refine kj_iload_n X dX1_lineOf_168 rfl rfl ?_
    refine kj_iconst (v := 0) X dX1_lineOf_169 (by decide) ?_
    refine kj_iconst (v := 5) X dX1_lineOf_170 (by decide) ?_
    refine kj_callS X 3 (ct_X1_isIn X.F i 0 5) (lw_S q608 q609 q43 q610) ⟨by decide, by decide, by decide +kernel⟩ dX1_lineOf_171 rfl rfl (by first | exact Nat.le_of_ble_eq_true rfl | simp [kr_cat, Value.category]) ⟨Nat.le_of_ble_eq_true rfl, Nat.le_of_ble_eq_true rfl⟩ ⟨by dsimp only; omega, by dsimp only; omega⟩ (fun E => kjx_no) (fun v_171 => ?_)
    refine kj_and (fun e_171 => ?_)
    subst e_171
    refine kj_if_eq X 188 dX1_lineOf_174 (by decide) (fun c_174 => ?_) (fun c_174 => ?_)
    · have hf : ¬ (0 ≤ i ∧ i ≤ 5) := by simpa [kr_b] using c_174
      refine kj_null X dX1_lineOf_188 ?_
      exact kj_aret X (Or.inl ⟨_, rfl⟩) (by first | exact ⟨some _, rfl⟩ | exact ⟨none, rfl⟩ | exact ⟨_, rfl⟩) dX1_lineOf_189 (by omega) (by omega) (fun H h => hno (by unfold fLineOf; rw [hk]; exact if_neg (fun z => hf z.2)) H h)
    have hf : (0 ≤ i ∧ i ≤ 5) := by simpa [kr_b] using c_174
    refine kj_new (Pn := fun q H => Z (20, q) = none ∧ kr_S G (gA g) (kr_cells G g S (kr_up Z (20, q) (kr_o 11 [.int 0]))) H) (fs := [.int 0]) X kc_X9 q649 q650 q67 (fun j hj => by match j, hj with | 0, _ => rfl) dX1_lineOf_177 (by first | omega | (dsimp only; omega)) (by first | omega | (dsimp only; omega)) (fun H H1 h ho a u => h.mk2 hg a ho u) (fun q_177 => ?_)
    refine kj_and (fun h_q_177 => ?_)
    rw [show (Value.ref q_177) = Value.ref (gA g (20, q_177)) from by rw [(hg).2.2 q_177]]
    refine kj_dup X dX1_lineOf_180 (by first | rfl | exact kr_cat _) ?_
    refine kj_iload_n X dX1_lineOf_181 rfl rfl ?_
    refine kj_callI X 1 (ct_X9_init X.F hg (q := q_177) (i := i) (Z := kr_up Z (20, q_177) (kr_o 11 [.int 0])) kr_up_s) q653 q67 q651 q652 rfl ⟨by decide, by decide, by decide +kernel⟩ dX1_lineOf_182 rfl rfl (by first | exact Nat.le_of_ble_eq_true rfl | simp [kr_cat, Value.category]) ⟨Nat.le_of_ble_eq_true rfl, Nat.le_of_ble_eq_true rfl⟩ ⟨by dsimp only; omega, by dsimp only; omega⟩ (fun E => kjx_no) (fun v_182 => ?_)
    refine kj_and (fun e_182 => ?_)
    subst e_182
    rw [kr_up_up, hg.2.2 q_177]
    refine kj_goto X 189 dX1_lineOf_185 (by decide) ?_
    exact kj_aret X (Or.inl ⟨_, rfl⟩) (by first | exact ⟨some _, rfl⟩ | exact ⟨none, rfl⟩ | exact ⟨_, rfl⟩) dX1_lineOf_189 (by omega) (by omega) (fun H h => hyes 11 (by unfold fLineOf; rw [hk]; exact if_pos ⟨by decide, hf⟩) q_177 h_q_177 H h)
  by_cases h103 : c = 103
  · subst h103
    have hk0 : fKind 103 = 12 := rfl
    refine kj_tableIn X 190 dX1_lineOf_1 (by decide) (by decide) (by rfl) (by decide) ?_
    have hk := hk0
    refine kj_iload_n X dX1_lineOf_190 rfl rfl ?_
    refine kj_iconst (v := 0) X dX1_lineOf_191 (by decide) ?_
    refine kj_bipush (v := 20) X dX1_lineOf_192 (by decide) ?_
    refine kj_callS X 3 (ct_X1_isIn X.F i 0 20) (lw_S q608 q609 q43 q610) ⟨by decide, by decide, by decide +kernel⟩ dX1_lineOf_194 rfl rfl (by first | exact Nat.le_of_ble_eq_true rfl | simp [kr_cat, Value.category]) ⟨Nat.le_of_ble_eq_true rfl, Nat.le_of_ble_eq_true rfl⟩ ⟨by dsimp only; omega, by dsimp only; omega⟩ (fun E => kjx_no) (fun v_194 => ?_)
    refine kj_and (fun e_194 => ?_)
    subst e_194
    refine kj_if_eq X 211 dX1_lineOf_197 (by decide) (fun c_197 => ?_) (fun c_197 => ?_)
    · have hf : ¬ (0 ≤ i ∧ i ≤ 20) := by simpa [kr_b] using c_197
      refine kj_null X dX1_lineOf_211 ?_
      exact kj_aret X (Or.inl ⟨_, rfl⟩) (by first | exact ⟨some _, rfl⟩ | exact ⟨none, rfl⟩ | exact ⟨_, rfl⟩) dX1_lineOf_212 (by omega) (by omega) (fun H h => hno (by unfold fLineOf; rw [hk]; exact if_neg (fun z => hf z.2)) H h)
    have hf : (0 ≤ i ∧ i ≤ 20) := by simpa [kr_b] using c_197
    refine kj_new (Pn := fun q H => Z (20, q) = none ∧ kr_S G (gA g) (kr_cells G g S (kr_up Z (20, q) (kr_o 12 [.int 0]))) H) (fs := [.int 0]) X kc_X10 q657 q658 q68 (fun j hj => by match j, hj with | 0, _ => rfl) dX1_lineOf_200 (by first | omega | (dsimp only; omega)) (by first | omega | (dsimp only; omega)) (fun H H1 h ho a u => h.mk2 hg a ho u) (fun q_200 => ?_)
    refine kj_and (fun h_q_200 => ?_)
    rw [show (Value.ref q_200) = Value.ref (gA g (20, q_200)) from by rw [(hg).2.2 q_200]]
    refine kj_dup X dX1_lineOf_203 (by first | rfl | exact kr_cat _) ?_
    refine kj_iload_n X dX1_lineOf_204 rfl rfl ?_
    refine kj_callI X 1 (ct_X10_init X.F hg (q := q_200) (i := i) (Z := kr_up Z (20, q_200) (kr_o 12 [.int 0])) kr_up_s) q661 q68 q659 q660 rfl ⟨by decide, by decide, by decide +kernel⟩ dX1_lineOf_205 rfl rfl (by first | exact Nat.le_of_ble_eq_true rfl | simp [kr_cat, Value.category]) ⟨Nat.le_of_ble_eq_true rfl, Nat.le_of_ble_eq_true rfl⟩ ⟨by dsimp only; omega, by dsimp only; omega⟩ (fun E => kjx_no) (fun v_205 => ?_)
    refine kj_and (fun e_205 => ?_)
    subst e_205
    rw [kr_up_up, hg.2.2 q_200]
    refine kj_goto X 212 dX1_lineOf_208 (by decide) ?_
    exact kj_aret X (Or.inl ⟨_, rfl⟩) (by first | exact ⟨some _, rfl⟩ | exact ⟨none, rfl⟩ | exact ⟨_, rfl⟩) dX1_lineOf_212 (by omega) (by omega) (fun H h => hyes 12 (by unfold fLineOf; rw [hk]; exact if_pos ⟨by decide, hf⟩) q_200 h_q_200 H h)
  by_cases h118 : c = 118
  · subst h118
    have hk0 : fKind 118 = 13 := rfl
    refine kj_tableIn X 213 dX1_lineOf_1 (by decide) (by decide) (by rfl) (by decide) ?_
    have hk := hk0
    refine kj_iload_n X dX1_lineOf_213 rfl rfl ?_
    refine kj_iconst (v := 0) X dX1_lineOf_214 (by decide) ?_
    refine kj_bipush (v := 20) X dX1_lineOf_215 (by decide) ?_
    refine kj_callS X 3 (ct_X1_isIn X.F i 0 20) (lw_S q608 q609 q43 q610) ⟨by decide, by decide, by decide +kernel⟩ dX1_lineOf_217 rfl rfl (by first | exact Nat.le_of_ble_eq_true rfl | simp [kr_cat, Value.category]) ⟨Nat.le_of_ble_eq_true rfl, Nat.le_of_ble_eq_true rfl⟩ ⟨by dsimp only; omega, by dsimp only; omega⟩ (fun E => kjx_no) (fun v_217 => ?_)
    refine kj_and (fun e_217 => ?_)
    subst e_217
    refine kj_if_eq X 234 dX1_lineOf_220 (by decide) (fun c_220 => ?_) (fun c_220 => ?_)
    · have hf : ¬ (0 ≤ i ∧ i ≤ 20) := by simpa [kr_b] using c_220
      refine kj_null X dX1_lineOf_234 ?_
      exact kj_aret X (Or.inl ⟨_, rfl⟩) (by first | exact ⟨some _, rfl⟩ | exact ⟨none, rfl⟩ | exact ⟨_, rfl⟩) dX1_lineOf_235 (by omega) (by omega) (fun H h => hno (by unfold fLineOf; rw [hk]; exact if_neg (fun z => hf z.2)) H h)
    have hf : (0 ≤ i ∧ i ≤ 20) := by simpa [kr_b] using c_220
    refine kj_new (Pn := fun q H => Z (20, q) = none ∧ kr_S G (gA g) (kr_cells G g S (kr_up Z (20, q) (kr_o 13 [.int 0]))) H) (fs := [.int 0]) X kc_X11 q665 q666 q69 (fun j hj => by match j, hj with | 0, _ => rfl) dX1_lineOf_223 (by first | omega | (dsimp only; omega)) (by first | omega | (dsimp only; omega)) (fun H H1 h ho a u => h.mk2 hg a ho u) (fun q_223 => ?_)
    refine kj_and (fun h_q_223 => ?_)
    rw [show (Value.ref q_223) = Value.ref (gA g (20, q_223)) from by rw [(hg).2.2 q_223]]
    refine kj_dup X dX1_lineOf_226 (by first | rfl | exact kr_cat _) ?_
    refine kj_iload_n X dX1_lineOf_227 rfl rfl ?_
    refine kj_callI X 1 (ct_X11_init X.F hg (q := q_223) (i := i) (Z := kr_up Z (20, q_223) (kr_o 13 [.int 0])) kr_up_s) q669 q69 q667 q668 rfl ⟨by decide, by decide, by decide +kernel⟩ dX1_lineOf_228 rfl rfl (by first | exact Nat.le_of_ble_eq_true rfl | simp [kr_cat, Value.category]) ⟨Nat.le_of_ble_eq_true rfl, Nat.le_of_ble_eq_true rfl⟩ ⟨by dsimp only; omega, by dsimp only; omega⟩ (fun E => kjx_no) (fun v_228 => ?_)
    refine kj_and (fun e_228 => ?_)
    subst e_228
    rw [kr_up_up, hg.2.2 q_223]
    refine kj_goto X 235 dX1_lineOf_231 (by decide) ?_
    exact kj_aret X (Or.inl ⟨_, rfl⟩) (by first | exact ⟨some _, rfl⟩ | exact ⟨none, rfl⟩ | exact ⟨_, rfl⟩) dX1_lineOf_235 (by omega) (by omega) (fun H h => hyes 13 (by unfold fLineOf; rw [hk]; exact if_pos ⟨by decide, hf⟩) q_223 h_q_223 H h)
  by_cases h108 : c = 108
  · subst h108
    have hk0 : fKind 108 = 14 := rfl
    refine kj_tableIn X 236 dX1_lineOf_1 (by decide) (by decide) (by rfl) (by decide) ?_
    have hk := hk0
    refine kj_iload_n X dX1_lineOf_236 rfl rfl ?_
    refine kj_iconst (v := 0) X dX1_lineOf_237 (by decide) ?_
    refine kj_bipush (v := 20) X dX1_lineOf_238 (by decide) ?_
    refine kj_callS X 3 (ct_X1_isIn X.F i 0 20) (lw_S q608 q609 q43 q610) ⟨by decide, by decide, by decide +kernel⟩ dX1_lineOf_240 rfl rfl (by first | exact Nat.le_of_ble_eq_true rfl | simp [kr_cat, Value.category]) ⟨Nat.le_of_ble_eq_true rfl, Nat.le_of_ble_eq_true rfl⟩ ⟨by dsimp only; omega, by dsimp only; omega⟩ (fun E => kjx_no) (fun v_240 => ?_)
    refine kj_and (fun e_240 => ?_)
    subst e_240
    refine kj_if_eq X 257 dX1_lineOf_243 (by decide) (fun c_243 => ?_) (fun c_243 => ?_)
    · have hf : ¬ (0 ≤ i ∧ i ≤ 20) := by simpa [kr_b] using c_243
      refine kj_null X dX1_lineOf_257 ?_
      exact kj_aret X (Or.inl ⟨_, rfl⟩) (by first | exact ⟨some _, rfl⟩ | exact ⟨none, rfl⟩ | exact ⟨_, rfl⟩) dX1_lineOf_258 (by omega) (by omega) (fun H h => hno (by unfold fLineOf; rw [hk]; exact if_neg (fun z => hf z.2)) H h)
    have hf : (0 ≤ i ∧ i ≤ 20) := by simpa [kr_b] using c_243
    refine kj_new (Pn := fun q H => Z (20, q) = none ∧ kr_S G (gA g) (kr_cells G g S (kr_up Z (20, q) (kr_o 14 [.int 0]))) H) (fs := [.int 0]) X kc_X12 q673 q674 q70 (fun j hj => by match j, hj with | 0, _ => rfl) dX1_lineOf_246 (by first | omega | (dsimp only; omega)) (by first | omega | (dsimp only; omega)) (fun H H1 h ho a u => h.mk2 hg a ho u) (fun q_246 => ?_)
    refine kj_and (fun h_q_246 => ?_)
    rw [show (Value.ref q_246) = Value.ref (gA g (20, q_246)) from by rw [(hg).2.2 q_246]]
    refine kj_dup X dX1_lineOf_249 (by first | rfl | exact kr_cat _) ?_
    refine kj_iload_n X dX1_lineOf_250 rfl rfl ?_
    refine kj_callI X 1 (ct_X12_init X.F hg (q := q_246) (i := i) (Z := kr_up Z (20, q_246) (kr_o 14 [.int 0])) kr_up_s) q677 q70 q675 q676 rfl ⟨by decide, by decide, by decide +kernel⟩ dX1_lineOf_251 rfl rfl (by first | exact Nat.le_of_ble_eq_true rfl | simp [kr_cat, Value.category]) ⟨Nat.le_of_ble_eq_true rfl, Nat.le_of_ble_eq_true rfl⟩ ⟨by dsimp only; omega, by dsimp only; omega⟩ (fun E => kjx_no) (fun v_251 => ?_)
    refine kj_and (fun e_251 => ?_)
    subst e_251
    rw [kr_up_up, hg.2.2 q_246]
    refine kj_goto X 258 dX1_lineOf_254 (by decide) ?_
    exact kj_aret X (Or.inl ⟨_, rfl⟩) (by first | exact ⟨some _, rfl⟩ | exact ⟨none, rfl⟩ | exact ⟨_, rfl⟩) dX1_lineOf_258 (by omega) (by omega) (fun H h => hyes 14 (by unfold fLineOf; rw [hk]; exact if_pos ⟨by decide, hf⟩) q_246 h_q_246 H h)
  by_cases h99 : c = 99
  · subst h99
    have hk0 : fKind 99 = 15 := rfl
    refine kj_tableIn X 259 dX1_lineOf_1 (by decide) (by decide) (by rfl) (by decide) ?_
    have hk := hk0
    refine kj_iload_n X dX1_lineOf_259 rfl rfl ?_
    refine kj_iconst (v := 0) X dX1_lineOf_260 (by decide) ?_
    refine kj_bipush (v := 99) X dX1_lineOf_261 (by decide) ?_
    refine kj_callS X 3 (ct_X1_isIn X.F i 0 99) (lw_S q608 q609 q43 q610) ⟨by decide, by decide, by decide +kernel⟩ dX1_lineOf_263 rfl rfl (by first | exact Nat.le_of_ble_eq_true rfl | simp [kr_cat, Value.category]) ⟨Nat.le_of_ble_eq_true rfl, Nat.le_of_ble_eq_true rfl⟩ ⟨by dsimp only; omega, by dsimp only; omega⟩ (fun E => kjx_no) (fun v_263 => ?_)
    refine kj_and (fun e_263 => ?_)
    subst e_263
    refine kj_if_eq X 280 dX1_lineOf_266 (by decide) (fun c_266 => ?_) (fun c_266 => ?_)
    · have hf : ¬ (0 ≤ i ∧ i ≤ 99) := by simpa [kr_b] using c_266
      refine kj_null X dX1_lineOf_280 ?_
      exact kj_aret X (Or.inl ⟨_, rfl⟩) (by first | exact ⟨some _, rfl⟩ | exact ⟨none, rfl⟩ | exact ⟨_, rfl⟩) dX1_lineOf_281 (by omega) (by omega) (fun H h => hno (by unfold fLineOf; rw [hk]; exact if_neg (fun z => hf z.2)) H h)
    have hf : (0 ≤ i ∧ i ≤ 99) := by simpa [kr_b] using c_266
    refine kj_new (Pn := fun q H => Z (20, q) = none ∧ kr_S G (gA g) (kr_cells G g S (kr_up Z (20, q) (kr_o 15 [.int 0]))) H) (fs := [.int 0]) X kc_X13 q681 q682 q71 (fun j hj => by match j, hj with | 0, _ => rfl) dX1_lineOf_269 (by first | omega | (dsimp only; omega)) (by first | omega | (dsimp only; omega)) (fun H H1 h ho a u => h.mk2 hg a ho u) (fun q_269 => ?_)
    refine kj_and (fun h_q_269 => ?_)
    rw [show (Value.ref q_269) = Value.ref (gA g (20, q_269)) from by rw [(hg).2.2 q_269]]
    refine kj_dup X dX1_lineOf_272 (by first | rfl | exact kr_cat _) ?_
    refine kj_iload_n X dX1_lineOf_273 rfl rfl ?_
    refine kj_callI X 1 (ct_X13_init X.F hg (q := q_269) (i := i) (Z := kr_up Z (20, q_269) (kr_o 15 [.int 0])) kr_up_s) q685 q71 q683 q684 rfl ⟨by decide, by decide, by decide +kernel⟩ dX1_lineOf_274 rfl rfl (by first | exact Nat.le_of_ble_eq_true rfl | simp [kr_cat, Value.category]) ⟨Nat.le_of_ble_eq_true rfl, Nat.le_of_ble_eq_true rfl⟩ ⟨by dsimp only; omega, by dsimp only; omega⟩ (fun E => kjx_no) (fun v_274 => ?_)
    refine kj_and (fun e_274 => ?_)
    subst e_274
    rw [kr_up_up, hg.2.2 q_269]
    refine kj_goto X 281 dX1_lineOf_277 (by decide) ?_
    exact kj_aret X (Or.inl ⟨_, rfl⟩) (by first | exact ⟨some _, rfl⟩ | exact ⟨none, rfl⟩ | exact ⟨_, rfl⟩) dX1_lineOf_281 (by omega) (by omega) (fun H h => hyes 15 (by unfold fLineOf; rw [hk]; exact if_pos ⟨by decide, hf⟩) q_269 h_q_269 H h)
  have hnot : ∀ w ∈ ([115, 119, 100, 102, 103, 118, 108, 99] : List Int32), c ≠ w := by
    intro w hw
    simp only [List.mem_cons, List.not_mem_nil, or_false] at hw
    rcases hw with rfl | rfl | rfl | rfl | rfl | rfl | rfl | rfl <;> assumption
  refine kj_sw X 282 dX1_lineOf_1 hnot (by decide) (by decide) ?_
  refine kj_iload_n X dX1_lineOf_282 rfl rfl ?_
  refine kj_bipush (v := 112) X dX1_lineOf_283 (by decide) ?_
  refine kj_icmp_ne X 309 dX1_lineOf_285 (by decide) (fun c_285 => ?_) (fun c_285 => ?_)
  · have hk : fKind c = 0 := by
      unfold fKind
      rw [if_neg h115, if_neg h119, if_neg h100, if_neg h102, if_neg h103, if_neg h118, if_neg h108, if_neg h99, if_neg c_285]
    refine kj_null X dX1_lineOf_309 ?_
    exact kj_aret X (Or.inl ⟨_, rfl⟩) (by first | exact ⟨some _, rfl⟩ | exact ⟨none, rfl⟩ | exact ⟨_, rfl⟩) dX1_lineOf_310 (by omega) (by omega) (fun H h => hno (by unfold fLineOf; rw [hk]; exact if_neg (fun z => z.1 rfl)) H h)
  subst c_285
  have hk : fKind 112 = 16 := rfl
  refine kj_iload_n X dX1_lineOf_288 rfl rfl ?_
  refine kj_iconst (v := 0) X dX1_lineOf_289 (by decide) ?_
  refine kj_bipush (v := 7) X dX1_lineOf_290 (by decide) ?_
  refine kj_callS X 3 (ct_X1_isIn X.F i 0 7) (lw_S q608 q609 q43 q610) ⟨by decide, by decide, by decide +kernel⟩ dX1_lineOf_292 rfl rfl (by first | exact Nat.le_of_ble_eq_true rfl | simp [kr_cat, Value.category]) ⟨Nat.le_of_ble_eq_true rfl, Nat.le_of_ble_eq_true rfl⟩ ⟨by dsimp only; omega, by dsimp only; omega⟩ (fun E => kjx_no) (fun v_292 => ?_)
  refine kj_and (fun e_292 => ?_)
  subst e_292
  refine kj_if_eq X 309 dX1_lineOf_295 (by decide) (fun c_295 => ?_) (fun c_295 => ?_)
  · have hf : ¬ (0 ≤ i ∧ i ≤ 7) := by simpa [kr_b] using c_295
    refine kj_null X dX1_lineOf_309 ?_
    exact kj_aret X (Or.inl ⟨_, rfl⟩) (by first | exact ⟨some _, rfl⟩ | exact ⟨none, rfl⟩ | exact ⟨_, rfl⟩) dX1_lineOf_310 (by omega) (by omega) (fun H h => hno (by unfold fLineOf; rw [hk]; exact if_neg (fun z => hf z.2)) H h)
  have hf : (0 ≤ i ∧ i ≤ 7) := by simpa [kr_b] using c_295
  refine kj_new (Pn := fun q H => Z (20, q) = none ∧ kr_S G (gA g) (kr_cells G g S (kr_up Z (20, q) (kr_o 16 [.int 0]))) H) (fs := [.int 0]) X kc_X14 q689 q690 q72 (fun j hj => by match j, hj with | 0, _ => rfl) dX1_lineOf_298 (by first | omega | (dsimp only; omega)) (by first | omega | (dsimp only; omega)) (fun H H1 h ho a u => h.mk2 hg a ho u) (fun q_298 => ?_)
  refine kj_and (fun h_q_298 => ?_)
  rw [show (Value.ref q_298) = Value.ref (gA g (20, q_298)) from by rw [(hg).2.2 q_298]]
  refine kj_dup X dX1_lineOf_301 (by first | rfl | exact kr_cat _) ?_
  refine kj_iload_n X dX1_lineOf_302 rfl rfl ?_
  refine kj_callI X 1 (ct_X14_init X.F hg (q := q_298) (i := i) (Z := kr_up Z (20, q_298) (kr_o 16 [.int 0])) kr_up_s) q693 q72 q691 q692 rfl ⟨by decide, by decide, by decide +kernel⟩ dX1_lineOf_303 rfl rfl (by first | exact Nat.le_of_ble_eq_true rfl | simp [kr_cat, Value.category]) ⟨Nat.le_of_ble_eq_true rfl, Nat.le_of_ble_eq_true rfl⟩ ⟨by dsimp only; omega, by dsimp only; omega⟩ (fun E => kjx_no) (fun v_303 => ?_)
  refine kj_and (fun e_303 => ?_)
  subst e_303
  rw [kr_up_up, hg.2.2 q_298]
  refine kj_goto X 310 dX1_lineOf_306 (by decide) ?_
  exact kj_aret X (Or.inl ⟨_, rfl⟩) (by first | exact ⟨some _, rfl⟩ | exact ⟨none, rfl⟩ | exact ⟨_, rfl⟩) dX1_lineOf_310 (by omega) (by omega) (fun H h => hyes 16 (by unfold fLineOf; rw [hk]; exact if_pos ⟨by decide, hf⟩) q_298 h_q_298 H h)
theorem ct_X1_lineOf0 (hF : kr_F G l) (hg : kr_gok g) {c i : Int32} (h : fLineOf c i = none) : kr_T G l yX1_lineOf (ws_ yX1_lineOf cX1_lineOf 2 (Option.some (Jvm.ClassFile.FieldType.object "KioskReel$Line"))) 5 300 [.int c, .int i] (kr_S G (gA g) (kr_cells G g S Z)) 1 1 (fun v H => v = some .null ∧ kr_S G (gA g) (kr_cells G g S Z) H) kr_no :=
  ct_X1_lineOf_ hF hg c i _ (fun _ H h => ⟨rfl, h⟩) (fun k e => by rw [h] at e; cases e)
theorem ct_X1_lineOf (hF : kr_F G l) (hg : kr_gok g) {c i : Int32} {k : Nat} (h : fLineOf c i = some k) : kr_T G l yX1_lineOf (ws_ yX1_lineOf cX1_lineOf 2 (Option.some (Jvm.ClassFile.FieldType.object "KioskReel$Line"))) 5 300 [.int c, .int i] (kr_S G (gA g) (kr_cells G g S Z)) 1 1 (fun v H => ∃ q, (v = some (.ref q) ∧ Z (20, q) = none) ∧ kr_S G (gA g) (kr_cells G g S (kr_up Z (20, q) (kr_o k [.int i]))) H) kr_no :=
  ct_X1_lineOf_ hF hg c i _ (fun e => by rw [h] at e; cases e) (fun k' e q hq H h1 => by rw [h] at e; cases e; exact ⟨q, ⟨rfl, hq⟩, h1⟩)
end
