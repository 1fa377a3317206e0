/-! LEAVES: methods of the small classes that make nothing -/
set_option maxRecDepth 100000
/-- a list's marks -/
abbrev gL (g : kr_Gh) (r : kr_Ro) (mc : Int32) (cap : Nat) : kr_Gh := (g.1, kr_up g.2.1 r mc, kr_up g.2.2 r cap)
theorem gA_gL {g : kr_Gh} {r : kr_Ro} {mc : Int32} {cap : Nat} : gA (gL g r mc cap) = gA g := rfl
theorem gM_gL {g : kr_Gh} {r q : kr_Ro} {mc : Int32} {cap : Nat} : gM (gL g r mc cap) q = if q = r then mc else gM g q := rfl
theorem gC_gL {g : kr_Gh} {r q : kr_Ro} {mc : Int32} {cap : Nat} : gC (gL g r mc cap) q = if q = r then cap else gC g q := rfl
section
variable {G : kr_G} {l : Launch} {g g' : kr_Gh} {S S' : kr_St} {Z : kr_Ro → Option kr_AE} {k : Nat} {σ σ' : kr_Ro → Option kr_AE} {ad : kr_Ro → Nat} {i : kr_Ro} {H H1 : Heap}
/-- checkcast to the very class -/
theorem kj_ccastR {x : kr_X} {y : MethodName} {cc : ByteArray} {nL : Nat} {ret : Option FieldType} {rm : Room} {hh : List (Nat × Nat × Nat × Nat)} {Q : State → Prop} {P : Heap → Prop} {cs ss pc : Nat} {lv : List (Option Value)} {st : List Value} (X : kr_C G x y cc nL ret rm hh) {index a ci N : Nat} {C : String} {T : u_T} {fs : List Value} (hc : kr_cl[ci]? = some (C, T, N)) (hlink : Cond.classLink y.cls index C ∈ lw_all) (hdg : decode cc pc = .ok (.checkcast index, 3)) (hP : ∀ H, P H → va_at (kg_D G) kr_cl (a, .inr (ci, fs)) H)
    (k : kr_J G x nL Q P cs ss (pc + 3) lv (.ref a :: st)) : kr_J G x nL Q P cs ss pc lv (.ref a :: st) := fun H locs ls hH hS hl => by
  have hr := va_recv X.K (kr_one (hP H hH)) hc (q0 := 0) rfl
  refine va_castY X.1 X.2.1 X.2.2.2.1 (X.hts _ hlink) ?_ hr hdg (k H locs ls hH hS hl)
  obtain ⟨cell, -, -, h3⟩ := hr
  show (Cond.castable C C).before #[] (kx_s x) = true
  simp [Cond.before, Cond.holds, Cond.value, h3, Vm.assignable_self]
theorem kr_S.upd (h : kr_S G ad σ H) {c : Nat} {fs fs' : List Value} (hi : σ i = some (.inl (.inl (.inr (c, fs))))) (e : kr_up σ i (some (.inl (.inl (.inr (c, fs'))))) = σ') (ha : va_at (kg_D G) kr_cl (ad i, .inr (c, fs')) H1) (u : kr_upd H H1 (ad i)) : kr_S G ad σ' H1 := e ▸ h.put hi ha u
theorem kr_S.upa (h : kr_S G ad σ H) {w w' : ClassId × vp_A} (hi : σ i = some (.inl (.inl (.inl w)))) (e : kr_up σ i (some (.inl (.inl (.inl w')))) = σ') (ha : va_at (kg_D G) kr_cl (ad i, .inl w') H1) (u : kr_upd H H1 (ad i)) : kr_S G ad σ' H1 := e ▸ h.puta hi ha u
theorem kl_6 {xs : List Nat} {mc : Int32} {cap : Nat} (h : k < sN S 1 0) : kr_up (kr_cells G g S Z) (6, k) (some (.inr (xs.map (fun i => gA g (7, i)), mc, cap))) = kr_cells G (gL g (6, k) mc cap) (uL S 2 k xs) Z := by
  refine kc_one ?_ ?_
  · simp [kr_cells, sL_uL, sN_uL, kr_li, gA_gL, gM_gL, gC_gL, h]
  · rintro ⟨a, b⟩ hab
    unfold kr_cells
    dsimp only
    split <;> first | rfl | (simp_all [sI_uL, sN_uL, sL_uL, sD_uL, kr_li, gA_gL, gM_gL, gC_gL]; done) | (simp_all [sI_uL, sN_uL, sL_uL, sD_uL, kr_li, gA_gL, gM_gL, gC_gL]; rfl)
theorem kl_12 {xs : List Nat} {mc : Int32} {cap : Nat} (h : k < sN S 14 0) : kr_up (kr_cells G g S Z) (12, k) (some (.inr (xs.map (fun i => gA g (7, i)), mc, cap))) = kr_cells G (gL g (12, k) mc cap) (uL S 3 k xs) Z := by
  refine kc_one ?_ ?_
  · simp [kr_cells, sL_uL, sN_uL, kr_li, gA_gL, gM_gL, gC_gL, h]
  · rintro ⟨a, b⟩ hab
    unfold kr_cells
    dsimp only
    split <;> first | rfl | (simp_all [sI_uL, sN_uL, sL_uL, sD_uL, kr_li, gA_gL, gM_gL, gC_gL]; done) | (simp_all [sI_uL, sN_uL, sL_uL, sD_uL, kr_li, gA_gL, gM_gL, gC_gL]; rfl)
theorem kl_3 {xs : List Nat} {mc : Int32} {cap : Nat} (h : k < sN S 0 0) : kr_up (kr_cells G g S Z) (3, k) (some (.inr (xs, mc, cap))) = kr_cells G (gL g (3, k) mc cap) (uL S 0 k xs) Z := by
  refine kc_one ?_ ?_
  · simp [kr_cells, sL_uL, sN_uL, kr_li, gA_gL, gM_gL, gC_gL, h]
  · rintro ⟨a, b⟩ hab
    unfold kr_cells
    dsimp only
    split <;> first | rfl | (simp_all [sI_uL, sN_uL, sL_uL, sD_uL, kr_li, gA_gL, gM_gL, gC_gL]; done) | (simp_all [sI_uL, sN_uL, sL_uL, sD_uL, kr_li, gA_gL, gM_gL, gC_gL]; rfl)
theorem ku_saw {s : Nat} {v : Int32} (h : k < sN S 2 0) : kr_up (kr_cells G g S Z) (14, k) (kr_ai G 0 100 (upd (fun s => sI S (2 * k + 100) s) s v)) = kr_cells G g (uI S (2 * k + 100) s v) Z := by
  refine kc_one ?_ ?_
  · show (if _ then _ else _) = _
    rw [if_pos (show (14, k).2 < sN (uI S (2 * k + 100) s v) 2 0 from h)]
    simp only [sI_uI, true_and]
    rfl
  · rintro ⟨a, b⟩ hab
    unfold kr_cells
    dsimp only
    have e1 : ∀ s', sI (uI S (2 * k + 100) s v) (2 * b + 101) s' = sI S (2 * b + 101) s' := fun s' => by rw [sI_uI, if_neg (by omega)]
    have e2 : b ≠ k → ∀ s', sI (uI S (2 * k + 100) s v) (2 * b + 100) s' = sI S (2 * b + 100) s' := fun hb s' => by rw [sI_uI, if_neg (by omega)]
    split <;> first | rfl | (simp only [e1]; rfl) | (simp only [e2 (fun z => hab (by rw [z]))]; rfl) | (simp_all [sI_uI, sN_uI, sL_uI, sD_uI]; done) | (simp_all [sI_uI, sN_uI, sL_uI, sD_uI]; rfl)
theorem ku_asks {s : Nat} {v : Int32} (h : k < sN S 2 0) : kr_up (kr_cells G g S Z) (15, k) (kr_ai G 0 100 (upd (fun s => sI S (2 * k + 101) s) s v)) = kr_cells G g (uI S (2 * k + 101) s v) Z := by
  refine kc_one ?_ ?_
  · show (if _ then _ else _) = _
    rw [if_pos (show (15, k).2 < sN (uI S (2 * k + 101) s v) 2 0 from h)]
    simp only [sI_uI, true_and]
    rfl
  · rintro ⟨a, b⟩ hab
    unfold kr_cells
    dsimp only
    have e1 : ∀ s', sI (uI S (2 * k + 101) s v) (2 * b + 100) s' = sI S (2 * b + 100) s' := fun s' => by rw [sI_uI, if_neg (by omega)]
    have e2 : b ≠ k → ∀ s', sI (uI S (2 * k + 101) s v) (2 * b + 101) s' = sI S (2 * b + 101) s' := fun hb s' => by rw [sI_uI, if_neg (by omega)]
    split <;> first | rfl | (simp only [e1]; rfl) | (simp only [e2 (fun z => hab (by rw [z]))]; rfl) | (simp_all [sI_uI, sN_uI, sL_uI, sD_uI]; done) | (simp_all [sI_uI, sN_uI, sL_uI, sD_uI]; rfl)
theorem ku_asked {s v : Nat} {f : Nat → Int32} (h : k < sN S 2 0) (hf : f = upd (fun s => nI (sN S (k + 100) s)) s (nI v)) : kr_up (kr_cells G g S Z) (16, k) (kr_ai G 1 100 f) = kr_cells G g (uN S (k + 100) s v) Z := by
  subst hf
  refine kc_one ?_ ?_
  · show (if _ then _ else _) = _
    rw [if_pos (show (16, k).2 < sN (uN S (k + 100) s v) 2 0 by rw [sN_uN, if_neg (by omega)]; exact h)]
    simp only [sN_uN, true_and]
    refine congrArg (fun f => kr_ai G 1 100 f) (funext fun j => ?_)
    unfold upd
    split <;> rfl
  · rintro ⟨a, b⟩ hab
    unfold kr_cells
    dsimp only
    split <;> first | rfl | (simp_all [sI_uN, sN_uN, sL_uN, sD_uN]; done) | (simp_all [sI_uN, sN_uN, sL_uN, sD_uN]; rfl)
/-- the place of a player's topmost frame -/
def kt_top (S : kr_St) (p : Nat) : Nat := 4 * p + (sN S 5 p - 1)
theorem ku_next {d : Nat} {v : Int32} (h : sN S 15 k = 1) (hd : d < 4) (h2 : d < sN S 5 k) : kr_up (kr_cells G g S Z) (9, 4 * k + d) (kr_o 4 [.ref (gA g (2, sN S 11 (4 * k + d))), .ref (gA g (10, 4 * k + d)), .int v]) = kr_cells G g (uI S 5 (4 * k + d) v) Z := by
  refine kc_one ?_ ?_
  · rw [kc_9 (by rw [sN_uI]; exact h) hd (by rw [sN_uI]; exact h2), sI_uI, if_pos ⟨rfl, rfl⟩]
    rfl
  · rintro ⟨a, b⟩ hab
    unfold kr_cells
    dsimp only
    split <;> first | rfl | (simp_all [sI_uI, sN_uI, sL_uI, sD_uI]; done) | (simp_all [sI_uI, sN_uI, sL_uI, sD_uI]; rfl)
theorem ct_X16_top (hF : kr_F G l) {p : Nat} (hp : sN S 15 p = 1) (h1 : 0 < sN S 5 p) (h4 : sN S 5 p ≤ 4) : kr_T G l yX16_top (ws_ yX16_top cX16_top 1 (Option.some (Jvm.ClassFile.FieldType.object "KioskReel$Frame"))) 4 150 [.ref (gA g (7, p))] (kr_S G (gA g) (kr_cells G g S Z)) 0 0 (fun v H => v = some (.ref (gA g (9, kt_top S p))) ∧ kr_S G (gA g) (kr_cells G g S Z) H) kr_no := by
  refine kr_T.of (by decide +kernel) hF (by simp [Value.category]) (Nat.le_of_ble_eq_true rfl) (fun x hx X => ?_)
  refine kj_aload_n X dX16_top_0 rfl rfl (by first | exact ⟨some _, rfl⟩ | exact ⟨none, rfl⟩ | exact ⟨_, rfl⟩) ?_
  refine kj_get X kc_X16 1 (by decide) q1139 (Or.inl rfl) dX16_top_1 (fun H h => h.own (kc_7 hp)) rfl ?_
  refine kj_aload_n X dX16_top_4 rfl rfl (by first | exact ⟨some _, rfl⟩ | exact ⟨none, rfl⟩ | exact ⟨_, rfl⟩) ?_
  refine kj_get X kc_X16 1 (by decide) q1139 (Or.inl rfl) dX16_top_5 (fun H h => h.own (kc_7 hp)) rfl ?_
  refine kj_callF X 0 (ct_J2_size X.F (kc_8 hp)) q1276 q481 q483 q46 q485 q480 q479 q484 q482 q148 ⟨by decide, by decide, by decide +kernel⟩ dX16_top_8 rfl rfl (by first | exact Nat.le_of_ble_eq_true rfl | simp [kr_cat, Value.category]) ⟨Nat.le_of_ble_eq_true rfl, Nat.le_of_ble_eq_true rfl⟩ ⟨by dsimp only; omega, by dsimp only; omega⟩ kc_J2.1 (fun H h => h.list (kc_8 hp)) (fun E => kjx_no) (fun v_8 => ?_)
  refine kj_and (fun e_8 => ?_)
  subst e_8
  refine kj_iconst (v := 1) X dX16_top_13 (by decide) ?_
  rw [List.length_map, List.length_range]
  refine kj_isub X dX16_top_14 ?_
  rw [kr_dec h1]
  refine kj_callF X 1 (ct_J2_get X.F (kc_8 hp) (k := sN S 5 p - 1) (a := gA g (9, kt_top S p)) (by rw [List.getElem?_map, List.getElem?_range (by omega)]; rfl)) q1278 q590 q592 q46 q594 q589 q588 q593 q591 q148 ⟨by decide, by decide, by decide +kernel⟩ dX16_top_15 rfl rfl (by first | exact Nat.le_of_ble_eq_true rfl | simp [kr_cat, Value.category]) ⟨Nat.le_of_ble_eq_true rfl, Nat.le_of_ble_eq_true rfl⟩ ⟨by dsimp only; omega, by dsimp only; omega⟩ kc_J2.1 (fun H h => h.list (kc_8 hp)) (fun E => kjx_no) (fun v_15 => ?_)
  refine kj_and (fun e_15 => ?_)
  subst e_15
  refine kj_ccastR X kc_X17.1 q1111 dX16_top_20 (fun H h => h.at (kc_9 hp (by omega) (by omega))) ?_
  exact kj_aret X (Or.inl ⟨_, rfl⟩) (by first | exact ⟨some _, rfl⟩ | exact ⟨none, rfl⟩ | exact ⟨_, rfl⟩) dX16_top_23 (by omega) (by omega) (fun H h => ⟨rfl, h⟩)
theorem ct_X17_isOver (hF : kr_F G l) {p d : Nat} (hp : sN S 15 p = 1) (hd : d < 4) (h2 : d < sN S 5 p) {n : Nat} (hn : sI S 5 (4 * p + d) = nI n) (hn2 : n < 2 ^ 31) (hl : (sL S 4 (4 * p + d)).length < 2 ^ 31) : kr_T G l yX17_isOver (ws_ yX17_isOver cX17_isOver 1 (Option.some Jvm.ClassFile.FieldType.boolean)) 1 20 [.ref (gA g (9, 4 * p + d))] (kr_S G (gA g) (kr_cells G g S Z)) 0 0 (fun v H => v = some (.int (kr_b (decide ((sL S 4 (4 * p + d)).length ≤ n)))) ∧ kr_S G (gA g) (kr_cells G g S Z) H) kr_no := by
  refine kr_T.of (by decide +kernel) hF (by simp [Value.category]) (Nat.le_of_ble_eq_true rfl) (fun x hx X => ?_)
  refine kj_aload_n X dX17_isOver_0 rfl rfl (by first | exact ⟨some _, rfl⟩ | exact ⟨none, rfl⟩ | exact ⟨_, rfl⟩) ?_
  refine kj_get X kc_X17 2 (by decide) q1123 (Or.inl rfl) dX17_isOver_1 (fun H h => h.own (kc_9 hp hd h2)) rfl ?_
  refine kj_aload_n X dX17_isOver_4 rfl rfl (by first | exact ⟨some _, rfl⟩ | exact ⟨none, rfl⟩ | exact ⟨_, rfl⟩) ?_
  refine kj_get X kc_X17 1 (by decide) q1121 (Or.inl rfl) dX17_isOver_5 (fun H h => h.own (kc_9 hp hd h2)) rfl ?_
  refine kj_alen X 7 rfl dX17_isOver_8 (fun H h => h.own (kc_10 hp hd h2)) rfl ?_
  rw [hn]
  refine kj_icmp_lt X 16 dX17_isOver_9 (by decide) (fun c_9 => ?_) (fun c_9 => ?_)
  · have e : ¬ (sL S 4 (4 * p + d)).length ≤ n := fun z => absurd c_9 (Int32.not_lt.mpr (nI_le z hn2))
    refine kj_iconst (v := 0) X dX17_isOver_16 (by decide) ?_
    exact kj_zret X rfl dX17_isOver_17 (by omega) (by omega) (fun H h => ⟨by simp [kr_b, e], h⟩)
  · have e : (sL S 4 (4 * p + d)).length ≤ n := Nat.not_lt.mp fun z => c_9 (nI_lt z hl)
    refine kj_iconst (v := 1) X dX17_isOver_12 (by decide) ?_
    refine kj_goto X 17 dX17_isOver_13 (by decide) ?_
    exact kj_zret X rfl dX17_isOver_17 (by omega) (by omega) (fun H h => ⟨by simp [kr_b, e], h⟩)
/-- Pause -/
theorem ct_X7_act (hF : kr_F G l) {p q : Nat} (hp : sN S 15 p = 1) (hq : sN S 12 q = 9) (a0 a1 : Nat) : kr_T G l yX7_act (ws_ yX7_act cX7_act 4 (Option.some Jvm.ClassFile.FieldType.boolean)) 1 20 [.ref (gA g (17, q)), .ref a0, .ref (gA g (7, p)), .ref a1] (kr_S G (gA g) (kr_cells G g S Z)) 0 0 (fun v H => v = some (.int (kr_b false)) ∧ kr_S G (gA g) (kr_cells G g (uI S 2 p (sI S 6 q - 1)) Z) H) kr_no := by
  have k17 : kr_cells G g S Z (17, q) = kr_o 9 [.int (sI S 6 q)] := by rw [kc_17 (by omega), hq]
  refine kr_T.of (by decide +kernel) hF (by simp [Value.category]) (Nat.le_of_ble_eq_true rfl) (fun x hx X => ?_)
  refine kj_aload_n X dX7_act_0 rfl rfl (by first | exact ⟨some _, rfl⟩ | exact ⟨none, rfl⟩ | exact ⟨_, rfl⟩) ?_
  refine kj_aload_n X dX7_act_1 rfl rfl (by first | exact ⟨some _, rfl⟩ | exact ⟨none, rfl⟩ | exact ⟨_, rfl⟩) ?_
  refine kj_getN X kc_X7 0 (by decide) q622 rfl dX7_act_2 (fun H h => h.own (k17)) rfl ?_
  refine kj_iconst (v := 1) X dX7_act_5 (by decide) ?_
  refine kj_isub X dX7_act_6 ?_
  refine kj_putN X kc_X16 4 (by decide) q1147 rfl rfl dX7_act_7 (by first | rfl | exact kr_nar _ _ | exact kr_narb _) (by first | rfl | exact kr_fitr _ _ | exact kr_fitb _) (Nat.le_of_ble_eq_true rfl) (fun H h => h.own (kc_7 hp)) (fun H H1 h a u => h.upd (kc_7 hp) (ku_wait hp) a u) ?_
  refine kj_iconst (v := 0) X dX7_act_10 (by decide) ?_
  exact kj_zret X rfl dX7_act_11 (by omega) (by omega) (fun H h => ⟨rfl, h⟩)
/-- SetCount -/
theorem ct_X13_act (hF : kr_F G l) {p q : Nat} (hp : sN S 15 p = 1) (hq : sN S 12 q = 15) (a0 a1 : Nat) : kr_T G l yX13_act (ws_ yX13_act cX13_act 4 (Option.some Jvm.ClassFile.FieldType.boolean)) 1 20 [.ref (gA g (17, q)), .ref a0, .ref (gA g (7, p)), .ref a1] (kr_S G (gA g) (kr_cells G g S Z)) 0 0 (fun v H => v = some (.int (kr_b true)) ∧ kr_S G (gA g) (kr_cells G g (uI S 1 p (sI S 6 q)) Z) H) kr_no := by
  have k17 : kr_cells G g S Z (17, q) = kr_o 15 [.int (sI S 6 q)] := by rw [kc_17 (by omega), hq]
  refine kr_T.of (by decide +kernel) hF (by simp [Value.category]) (Nat.le_of_ble_eq_true rfl) (fun x hx X => ?_)
  refine kj_aload_n X dX13_act_0 rfl rfl (by first | exact ⟨some _, rfl⟩ | exact ⟨none, rfl⟩ | exact ⟨_, rfl⟩) ?_
  refine kj_aload_n X dX13_act_1 rfl rfl (by first | exact ⟨some _, rfl⟩ | exact ⟨none, rfl⟩ | exact ⟨_, rfl⟩) ?_
  refine kj_getN X kc_X13 0 (by decide) q623 rfl dX13_act_2 (fun H h => h.own (k17)) rfl ?_
  refine kj_putN X kc_X16 3 (by decide) q1145 rfl rfl dX13_act_5 (by first | rfl | exact kr_nar _ _ | exact kr_narb _) (by first | rfl | exact kr_fitr _ _ | exact kr_fitb _) (Nat.le_of_ble_eq_true rfl) (fun H h => h.own (kc_7 hp)) (fun H H1 h a u => h.upd (kc_7 hp) (ku_count hp) a u) ?_
  refine kj_iconst (v := 1) X dX13_act_8 (by decide) ?_
  exact kj_zret X rfl dX13_act_9 (by omega) (by omega) (fun H h => ⟨rfl, h⟩)
end
