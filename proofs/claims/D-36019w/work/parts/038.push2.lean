/-! PlayList -/
set_option maxRecDepth 100000
section
variable {G : kr_G} {l : Launch} {g g' : kr_Gh} {S S' : kr_St} {Z Z' : kr_Ro → Option kr_AE}
theorem gFrame_ok (hg : kr_gok g) {f q q2 p : Nat} {mc : Int32} : kr_gsm [8, 9, 10] g (gL (gFrame g f q q2) (8, p) mc 10) ∧ kr_gok (gL (gFrame g f q q2) (8, p) mc 10) := by
  have eA : ∀ c x : Nat, c ≠ 9 → c ≠ 10 → gA (gL (gFrame g f q q2) (8, p) mc 10) (c, x) = gA g (c, x) := fun c x h1 h2 => by
    show kr_up (kr_up (gA g) (9, f) q) (10, f) q2 (c, x) = _
    rw [kr_up_n (fun z => h2 (Prod.mk.inj z).1), kr_up_n (fun z => h1 (Prod.mk.inj z).1)]
  refine ⟨?_, ⟨fun x => ⟨?_, ?_⟩, ?_, fun x => ?_⟩⟩
  · rintro ⟨c, x⟩ hr
    simp only [List.mem_cons, List.not_mem_nil, or_false, not_or] at hr
    exact ⟨eA c x hr.2.1 hr.2.2, kr_up_n (fun z => hr.1 (Prod.mk.inj z).1)⟩
  · rw [eA 40 x (by decide) (by decide)]
    exact (hg.1 x).1
  · rw [eA 17 x (by decide) (by decide)]
    exact (hg.1 x).2
  · intro r
    rw [gC_gL]
    split
    · exact Or.inr ⟨by decide, by decide⟩
    · exact hg.2.1 r
  · rw [eA 20 x (by decide) (by decide)]
    exact hg.2.2 x
def oPush (S : kr_St) (p i : Nat) : kr_St := if i < sN S 0 0 ∧ sN S 5 p < 4 then oFrame (oDepth S p (sN S 5 p + 1)) (4 * p + sN S 5 p) i else S
theorem ct_X14_act (hF : kr_F G l) (hg : kr_gok g) {p q i : Nat} (hp : sN S 15 p = 1) (hL : sN S 0 0 ≤ 8) (hd4 : sN S 5 p ≤ 4) (hq : sN S 12 q = 16) (hn : sI S 6 q = nI i) (hi8 : i < 8) (hI : kr_I S) (hZ : ∀ r z, Z r ≠ some (.inr z)) (hls : ∀ i, i < sN S 0 0 → (sL S 1 i).length ≤ 20 ∧ ∀ b ∈ sL S 1 i, 8 ≤ sN S 12 b ∧ sN S 12 b ≤ 16) (a1 : Nat) : kr_T G l yX14_act (ws_ yX14_act cX14_act 4 (Option.some Jvm.ClassFile.FieldType.boolean)) 8 700 [.ref (gA g (17, q)), .ref (gA g (0, 0)), .ref (gA g (7, p)), .ref a1] (kr_S G (gA g) (kr_cells G g S Z)) 2 23 (fun v H => v = some (.int (kr_b true)) ∧ kr_Hx G [8, 9, 10] g (oPush S p i) Z H) kr_no := by
  have k17 : ∀ Z1, kr_cells G g S Z1 (17, q) = kr_o 16 [.int (nI i)] := fun Z1 => by rw [kc_17 (by omega), hq, hn]
  refine kr_T.of (by decide +kernel) hF (by simp [Value.category]) (Nat.le_of_ble_eq_true rfl) (fun x hx X => ?_)
  refine kj_aload_n X dX14_act_0 rfl rfl (by first | exact ⟨some _, rfl⟩ | exact ⟨none, rfl⟩ | exact ⟨_, rfl⟩) ?_
  refine kj_getN X kc_X14 0 (by decide) q621 rfl dX14_act_1 (fun H h => h.own (k17 _)) rfl ?_
  refine kj_aload_n X dX14_act_4 rfl rfl (by first | exact ⟨some _, rfl⟩ | exact ⟨none, rfl⟩ | exact ⟨_, rfl⟩) ?_
  refine kj_getN X kc_X1 0 (by decide) q225 rfl dX14_act_5 (fun H h => h.own (kc_kio)) rfl ?_
  refine kj_callF X 0 (ct_J2_size X.F kc_l0) q1358 q481 q483 q46 q485 q480 q479 q484 q482 q148 ⟨by decide, by decide, by decide +kernel⟩ dX14_act_8 rfl rfl (by first | exact Nat.le_of_ble_eq_true rfl | simp [kr_cat, Value.category]) ⟨Nat.le_of_ble_eq_true rfl, Nat.le_of_ble_eq_true rfl⟩ ⟨by dsimp only; omega, by dsimp only; omega⟩ kc_J2.1 (fun H h => h.list (kc_l0)) (fun E => kjx_no) (fun v_8 => ?_)
  refine kj_and (fun e_8 => ?_)
  subst e_8
  rw [List.length_map, List.length_range]
  refine kj_icmp_ge X 62 dX14_act_13 (by decide) (fun c_13 => ?_) (fun c_13 => ?_)
  · have e : ¬ (i < sN S 0 0 ∧ sN S 5 p < 4) := fun z => absurd c_13 (Int32.not_le.mpr (nI_lt z.1 (by omega)))
    unfold oPush
    rw [if_neg e]
    refine kj_iconst (v := 1) X dX14_act_62 (by decide) ?_
    exact kj_zret X rfl dX14_act_63 (by omega) (by omega) (fun H h => ⟨rfl, kr_Hx.of h kr_gsm.rf hg⟩)
  have hi : i < sN S 0 0 := Nat.not_le.mp fun z => c_13 (nI_le z (by omega))
  refine kj_aload_n X dX14_act_16 rfl rfl (by first | exact ⟨some _, rfl⟩ | exact ⟨none, rfl⟩ | exact ⟨_, rfl⟩) ?_
  refine kj_getN X kc_X16 1 (by decide) q1140 rfl dX14_act_17 (fun H h => h.own (kc_7 hp)) rfl ?_
  refine kj_callF X 0 (ct_J2_size X.F (kc_8 hp)) q1358 q481 q483 q46 q485 q480 q479 q484 q482 q148 ⟨by decide, by decide, by decide +kernel⟩ dX14_act_20 rfl rfl (by first | exact Nat.le_of_ble_eq_true rfl | simp [kr_cat, Value.category]) ⟨Nat.le_of_ble_eq_true rfl, Nat.le_of_ble_eq_true rfl⟩ ⟨by dsimp only; omega, by dsimp only; omega⟩ kc_J2.1 (fun H h => h.list (kc_8 hp)) (fun E => kjx_no) (fun v_20 => ?_)
  refine kj_and (fun e_20 => ?_)
  subst e_20
  rw [List.length_map, List.length_range]
  refine kj_iconst (v := 4) X dX14_act_25 (by decide) ?_
  refine kj_icmp_ge X 62 dX14_act_26 (by decide) (fun c_26 => ?_) (fun c_26 => ?_)
  · have e : ¬ (i < sN S 0 0 ∧ sN S 5 p < 4) := fun z => absurd c_26 (Int32.not_le.mpr (nI_lt (b := 4) z.2 (by decide)))
    unfold oPush
    rw [if_neg e]
    refine kj_iconst (v := 1) X dX14_act_62 (by decide) ?_
    exact kj_zret X rfl dX14_act_63 (by omega) (by omega) (fun H h => ⟨rfl, kr_Hx.of h kr_gsm.rf hg⟩)
  have hd : sN S 5 p < 4 := Nat.not_le.mp fun z => c_26 (nI_le (a := 4) z (by omega))
  unfold oPush
  rw [if_pos ⟨hi, hd⟩]
  refine kj_aload_n X dX14_act_29 rfl rfl (by first | exact ⟨some _, rfl⟩ | exact ⟨none, rfl⟩ | exact ⟨_, rfl⟩) ?_
  refine kj_getN X kc_X16 1 (by decide) q1140 rfl dX14_act_30 (fun H h => h.own (kc_7 hp)) rfl ?_
  refine kj_new (Pn := fun q H => Z (20, q) = none ∧ kr_S G (gA g) (kr_cells G g S (kr_up Z (20, q) (kr_o 4 [.null, .null, .int 0]))) H) (fs := [.null, .null, .int 0]) X kc_X17 q1359 q1112 q85 (fun j hj => by rcases (show j = 0 ∨ j = 1 ∨ j = 2 by omega) with rfl | rfl | rfl <;> rfl) dX14_act_33 (by first | omega | (dsimp only; omega)) (by first | omega | (dsimp only; omega)) (fun H H1 h ho a u => h.mk2 hg a ho u) (fun q_33 => ?_)
  refine kj_and (fun h_q_33 => ?_)
  rw [show (Value.ref q_33) = Value.ref (gA g (20, q_33)) from by rw [(hg).2.2 q_33]]
  refine kj_dup X dX14_act_36 (by first | rfl | exact kr_cat _) ?_
  refine kj_aload_n X dX14_act_37 rfl rfl (by first | exact ⟨some _, rfl⟩ | exact ⟨none, rfl⟩ | exact ⟨_, rfl⟩) ?_
  refine kj_getN X kc_X1 0 (by decide) q225 rfl dX14_act_38 (fun H h => h.own (kc_kio)) rfl ?_
  refine kj_aload_n X dX14_act_41 rfl rfl (by first | exact ⟨some _, rfl⟩ | exact ⟨none, rfl⟩ | exact ⟨_, rfl⟩) ?_
  refine kj_getN X kc_X14 0 (by decide) q621 rfl dX14_act_42 (fun H h => h.own (k17 _)) rfl ?_
  obtain ⟨hl1, hl2⟩ := hls i hi
  have hzz : kr_up Z (20, q_33) (kr_o 4 [.null, .null, .int 0]) (20, q_33) = kr_o 4 [.null, .null, .int 0] := kr_up_s
  refine kj_callF X 1 (ct_J2_get X.F kc_l0 (k := i) (a := gA g (2, i)) (by rw [List.getElem?_map, List.getElem?_range hi]; rfl)) q1361 q590 q592 q46 q594 q589 q588 q593 q591 q148 ⟨by decide, by decide, by decide +kernel⟩ dX14_act_45 rfl rfl (by first | exact Nat.le_of_ble_eq_true rfl | simp [kr_cat, Value.category]) ⟨Nat.le_of_ble_eq_true rfl, Nat.le_of_ble_eq_true rfl⟩ ⟨by dsimp only; omega, by dsimp only; omega⟩ kc_J2.1 (fun H h => h.list (kc_l0)) (fun E => kjx_no) (fun v_45 => ?_)
  refine kj_and (fun e_45 => ?_)
  subst e_45
  refine kj_ccastR X kc_X4.1 q1362 dX14_act_50 (fun H h => h.at (kc_2 hi)) ?_
  refine kj_callI X 1 (ct_X17_init X.F hg hi hzz hl1 hl2) q1115 q85 q1363 q1114 rfl ⟨by decide, by decide, by decide +kernel⟩ dX14_act_53 rfl rfl (by first | exact Nat.le_of_ble_eq_true rfl | simp [kr_cat, Value.category]) ⟨Nat.le_of_ble_eq_true rfl, Nat.le_of_ble_eq_true rfl⟩ ⟨by dsimp only; omega, by dsimp only; omega⟩ (fun E => kjx_no) (fun v_53 => ?_)
  refine kj_open (fun q2 hq2 => ?_)
  obtain ⟨hv, hq2⟩ := hq2
  subst hv
  have hne : q2 ≠ q_33 := by
    intro e
    rw [e, kr_up_s] at hq2
    cases hq2
  have hq3 : Z (20, q2) = none := by
    rw [kr_up_n (fun z => hne (Prod.mk.inj z).2)] at hq2
    exact hq2
  have ez : kr_up (kr_up (kr_up Z (20, q_33) (kr_o 4 [.null, .null, .int 0])) (20, q2) (kr_al G (sL S 1 i))) (20, q_33) (kr_o 4 [.ref (gA g (2, i)), .ref q2, .int 0]) = kr_up (kr_up Z (20, q2) (kr_al G (sL S 1 i))) (20, q_33) (kr_o 4 [.ref (gA g (2, i)), .ref q2, .int 0]) := by
    funext r
    unfold kr_up
    split
    · rfl
    · split
      · rfl
      · rfl
  rw [ez]
  have hgc : kr_gc ((List.range (sN S 5 p)).map (fun d => gA g (9, 4 * p + d)), gM g (8, p), 10) = 0 := by
    unfold kr_gc
    rw [if_neg (by rw [List.length_map, List.length_range]; dsimp only; omega)]
  have hgs : kr_gs ((List.range (sN S 5 p)).map (fun d => gA g (9, 4 * p + d)), gM g (8, p), 10) = 0 := by
    unfold kr_gs
    rw [if_neg (by rw [List.length_map, List.length_range]; dsimp only; omega)]
  have hnc : kr_nc ((List.range (sN S 5 p)).map (fun d => gA g (9, 4 * p + d)), gM g (8, p), 10) = 10 := by
    unfold kr_nc
    rw [if_neg (by rw [List.length_map, List.length_range]; dsimp only; omega)]
  have hob : kr_obj (gA g) (kr_cells G g S (kr_up (kr_up Z (20, q2) (kr_al G (sL S 1 i))) (20, q_33) (kr_o 4 [.ref (gA g (2, i)), .ref q2, .int 0]))) (gA g (20, q_33)) := ⟨(20, q_33), 4, _, (by rw [kc_Z2, kr_up_s]), rfl, (by show (20 : Nat) ≠ 40; decide), by decide⟩
  refine kj_callF X 1 (ct_J2_add X.F hg.1 (kc_8 hp) hob (by show (10 : Nat) ≤ 600; decide)) q1365 q149 q151 q46 q153 q147 q146 q152 q150 q148 ⟨by decide, by decide, by decide +kernel⟩ dX14_act_56 rfl rfl (by first | exact Nat.le_of_ble_eq_true rfl | simp [kr_cat, Value.category]) ⟨Nat.le_of_ble_eq_true rfl, Nat.le_of_ble_eq_true rfl⟩ ⟨by dsimp only; omega, by dsimp only; omega⟩ kc_J2.1 (fun H h => h.list (kc_8 hp)) (fun E => kjx_no) (fun v_56 => ?_)
  refine kj_and (fun e_56 => ?_)
  subst e_56
  rw [hnc]
  have fin : ∀ H, kr_S G (gA g) (kr_up (kr_cells G g S (kr_up (kr_up Z (20, q2) (kr_al G (sL S 1 i))) (20, q_33) (kr_o 4 [.ref (gA g (2, i)), .ref q2, .int 0]))) (8, p) (some (.inr ((List.range (sN S 5 p)).map (fun d => gA g (9, 4 * p + d)) ++ [gA g (20, q_33)], gM g (8, p) + 1, 10)))) H → kr_Hx G [8, 9, 10] g (oFrame (oDepth S p (sN S 5 p + 1)) (4 * p + sN S 5 p) i) Z H := by
    intro H h
    refine kr_Hx.of (kr_S.frame (p := p) (d := sN S 5 p) (n := sN S 5 p + 1) (i := i) (q := q_33) (q2 := q2) (mc := gM g (8, p) + 1) hp hI hg hi (by omega) (by omega) (by omega) (fun d h1 h2 => by omega) hZ h_q_33 hq3 hne ?_) (gFrame_ok hg).1 (gFrame_ok hg).2
    have el : (List.range (sN S 5 p + 1)).map (fun d' => if d' = sN S 5 p then q_33 else gA g (9, 4 * p + d')) = (List.range (sN S 5 p)).map (fun d => gA g (9, 4 * p + d)) ++ [gA g (20, q_33)] := by
      rw [List.range_succ, List.map_append, hg.2.2]
      congr 1
      · refine List.map_congr_left fun d' hd' => ?_
        rw [if_neg (Nat.ne_of_lt (List.mem_range.mp hd'))]
      · simp
    rw [el]
    exact h
  refine kj_pop X dX14_act_61 (by first | rfl | exact kr_cat _) ?_
  refine kj_iconst (v := 1) X dX14_act_62 (by decide) ?_
  exact kj_zret X rfl dX14_act_63 (by omega) (by omega) (fun H h => ⟨rfl, fin H h⟩)
end
