/-! TURN 3: one line -/
set_option maxRecDepth 100000
section
variable {G : kr_G} {l : Launch} {g g' : kr_Gh} {S S' : kr_St} {Z Z' : kr_Ro → Option kr_AE}
theorem kj_line {rm : Room} {x : kr_X} (X : kr_C G x yX1_turn cX1_turn 6 none rm []) {p k : Nat} (hR : 12 ≤ rm.frames ∧ 3400 ≤ rm.locals) (hZ : ∀ r z, Z r ≠ some (.inr z)) {Q : State → Prop} {cs ss : Nat} {j4 : Int32} {v5 : Option Value} (hroom : cs + 5 ≤ rm.cells ∧ ss + 23 ≤ rm.slots) (hV : kr_V S) (hp : sN S 15 p = 1) (hk : k < sN S 1 0) (hg : kr_gok g) (hend : ¬ (1 < sN S 5 p ∧ fOver S (kt_top S p) = true))
    (kk : ∀ g' v5', kr_gsm [8, 9, 10, 12] g g' → kr_gok g' → kr_J G x 6 Q (kr_S G (gA g') (kr_cells G g' (oLine1 S p k).1 Z)) (cs + 5) (ss + 23) 173 [some (.ref (gA g (0, 0))), some (.ref (gA g (7, p))), some (.ref (gA g (5, k))), some (.int (kr_b (oLine1 S p k).2)), some (.int j4), v5'] []) :
    kr_J G x 6 Q (kr_S G (gA g) (kr_cells G g S Z)) cs ss 92 [some (.ref (gA g (0, 0))), some (.ref (gA g (7, p))), some (.ref (gA g (5, k))), some (.int (kr_b true)), some (.int j4), v5] [] := by
  have r1 := hR.1
  have r2 := hR.2
  have r3 := hroom.1
  have r4 := hroom.2
  obtain ⟨p1, ⟨p2, p3⟩, -, -, p7⟩ := hV.2.2.2.2.1 p hp
  obtain ⟨f1, f2, f3, m, f4, f5⟩ := p7 (sN S 5 p - 1) (by omega)
  have et : kt_top S p = 4 * p + (sN S 5 p - 1) := rfl
  have hp1 : sN (uD S (sD S + 1)) 15 p = 1 := hp
  refine kj_aload_n X dX1_turn_92 rfl rfl (by first | exact ⟨some _, rfl⟩ | exact ⟨none, rfl⟩ | exact ⟨_, rfl⟩) ?_
  refine kj_callV X 0 (ct_X16_top X.F hp p2 p3) (lw_V q1271 q1272 q1273 q84 q1274) ⟨rfl, by decide, by decide, by decide +kernel⟩ dX1_turn_93 rfl rfl (by first | exact Nat.le_of_ble_eq_true rfl | simp [kr_cat, Value.category]) ⟨by omega, by omega⟩ ⟨by omega, by omega⟩ kc_X16.1 (fun H h => h.rc (kc_7 hp)) (fun E => kjx_no) (fun v_93 => ?_)
  refine kj_and (fun e_93 => ?_)
  subst e_93
  refine kj_astore (lv' := [_, _, _, _, _, _]) X dX1_turn_96 (by decide) (by intro w h _; cases h <;> first | rfl | exact kr_cat _) (by first | exact ⟨some _, rfl⟩ | exact ⟨none, rfl⟩ | exact ⟨_, rfl⟩) rfl ?_
  refine kj_aload_n X dX1_turn_98 rfl rfl (by first | exact ⟨some _, rfl⟩ | exact ⟨none, rfl⟩ | exact ⟨_, rfl⟩) ?_
  refine kj_dup X dX1_turn_99 (by first | rfl | exact kr_cat _) ?_
  refine kj_get X kc_X1 5 (by decide) q233 (Or.inl rfl) dX1_turn_100 (fun H h => h.own (kc_kio)) rfl ?_
  refine kj_lconst (v := 1) X dX1_turn_103 (by decide) ?_
  refine kj_ladd X dX1_turn_104 ?_
  refine kj_put X kc_X1 5 (by decide) q233 (Or.inl rfl) rfl dX1_turn_105 (by first | rfl | exact kr_nar _ _ | exact kr_narb _) (by first | rfl | exact kr_fitr _ _ | exact kr_fitb _) (Nat.le_of_ble_eq_true rfl) (fun H h => h.own kc_kio) (fun H H1 h a u => h.upd kc_kio (ku_done (v := sD S + 1)) a u) ?_
  rw [et]
  refine kj_aload X dX1_turn_108 rfl (by first | exact ⟨some _, rfl⟩ | exact ⟨none, rfl⟩ | exact ⟨_, rfl⟩) ?_
  refine kj_callV X 0 (ct_X17_isOver (S := uD S (sD S + 1)) X.F (d := sN S 5 p - 1) hp1 (by omega) (by show _ < sN S 5 p; omega) f5 (by omega) (by show (sL S 4 _).length < _; omega)) (lw_V q1304 q1305 q1306 q85 q1307) ⟨rfl, by decide, by decide, by decide +kernel⟩ dX1_turn_110 rfl rfl (by first | exact Nat.le_of_ble_eq_true rfl | simp [kr_cat, Value.category]) ⟨by omega, by omega⟩ ⟨by omega, by omega⟩ kc_X17.1 (fun H h => h.rc (kc_9 (S := uD S (sD S + 1)) (d := sN S 5 p - 1) hp1 (by omega) (by show _ < sN S 5 p; omega))) (fun E => kjx_no) (fun v_110 => ?_)
  refine kj_and (fun e_110 => ?_)
  subst e_110
  have efo : fOver S (kt_top S p) = decide ((sL S 4 (4 * p + (sN S 5 p - 1))).length ≤ m) := by
    unfold fOver kt_top
    rw [f5, nI_clamp (by omega)]
  rw [show decide ((sL (uD S (sD S + 1)) 4 (4 * p + (sN S 5 p - 1))).length ≤ m) = fOver S (kt_top S p) from efo.symm]
  cases ho : fOver S (kt_top S p) with
  | true =>
    have h1 : sN S 5 p = 1 := by
      have : ¬ 1 < sN S 5 p := fun z => hend ⟨z, ho⟩
      omega
    have hV1 : kr_V (uD S (sD S + 1)) := hV.lon
    have hi : sN S 11 (4 * p + 0) < sN (uD S (sD S + 1)) 0 0 := by
      have := f1
      rw [h1] at this
      exact this
    obtain ⟨l1, l2⟩ := hV.2.2.1 _ hi
    have hls : (sL (uD S (sD S + 1)) 1 (sN S 11 (4 * p + 0))).length ≤ 20 ∧ ∀ b ∈ sL (uD S (sD S + 1)) 1 (sN S 11 (4 * p + 0)), 8 ≤ sN (uD S (sD S + 1)) 12 b ∧ sN (uD S (sD S + 1)) 12 b ≤ 16 := by
      show (sL S 1 _).length ≤ 20 ∧ ∀ b ∈ sL S 1 _, _
      rw [l2]
      exact ⟨l1, hV.2.1.2.2.1 _ hi⟩
    have eo : oLine1 S p k = (oFrame (oDepth (uD S (sD S + 1)) p 1) (4 * p + 0) (sN S 11 (4 * p + 0)), true) := by
      unfold oLine1
      rw [if_pos ho]
    rw [eo] at kk
    refine kj_if_eq X 142 dX1_turn_113 (by decide) (fun c_113 => ?_) (fun c_113 => ?_)
    · exact absurd c_113 (by decide)
    rw [h1]
    refine kj_P (P' := kr_S G (gA g) (kr_cells G g (uD S (sD S + 1)) Z)) (fun H h => h) ?_
    have k8 : ∀ Z1, kr_cells G g (uD S (sD S + 1)) Z1 (8, p) = some (.inr ([gA g (9, 4 * p + 0)], gM g (8, p), 10)) := fun Z1 => by
      rw [kc_8 hp1]
      show (some (.inr ((List.range (sN S 5 p)).map (fun d => gA g (9, 4 * p + d)), gM g (8, p), 10)) : Option kr_AE) = _
      rw [h1]
      rfl
    have k9 : ∀ Z1, kr_cells G g (uD S (sD S + 1)) Z1 (9, 4 * p + (1 - 1)) = kr_o 4 [.ref (gA g (2, sN S 11 (4 * p + 0))), .ref (gA g (10, 4 * p + 0)), .int (sI S 5 (4 * p + 0))] := fun Z1 => kc_9 (S := uD S (sD S + 1)) (d := 0) hp1 (by decide) (by show 0 < sN S 5 p; omega)
    refine kj_aload_n X dX1_turn_116 rfl rfl (by first | exact ⟨some _, rfl⟩ | exact ⟨none, rfl⟩ | exact ⟨_, rfl⟩) ?_
    refine kj_getN X kc_X16 1 (by decide) q1141 rfl dX1_turn_117 (fun H h => h.own (kc_7 hp1)) rfl ?_
    refine kj_iconst (v := 0) X dX1_turn_120 (by decide) ?_
    refine kj_new (Pn := fun q H => Z (20, q) = none ∧ kr_S G (gA g) (kr_cells G g (uD S (sD S + 1)) (kr_up Z (20, q) (kr_o 4 [.null, .null, .int 0]))) H) (fs := [.null, .null, .int 0]) X kc_X17 q1308 q1112 q85 (fun j hj => by rcases (show j = 0 ∨ j = 1 ∨ j = 2 by omega) with rfl | rfl | rfl <;> rfl) dX1_turn_121 (by first | omega | (dsimp only; omega)) (by first | omega | (dsimp only; omega)) (fun H H1 h ho a u => h.mk2 hg a ho u) (fun q_121 => ?_)
    refine kj_and (fun h_q_121 => ?_)
    rw [show (Value.ref q_121) = Value.ref (gA g (20, q_121)) from by rw [(hg).2.2 q_121]]
    refine kj_dup X dX1_turn_124 (by first | rfl | exact kr_cat _) ?_
    refine kj_aload X dX1_turn_125 rfl (by first | exact ⟨some _, rfl⟩ | exact ⟨none, rfl⟩ | exact ⟨_, rfl⟩) ?_
    refine kj_getN X kc_X17 0 (by decide) q1120 rfl dX1_turn_127 (fun H h => h.own (k9 _)) rfl ?_
    have hzz : kr_up Z (20, q_121) (kr_o 4 [.null, .null, .int 0]) (20, q_121) = kr_o 4 [.null, .null, .int 0] := kr_up_s
    refine kj_callI X 1 (ct_X17_init (S := uD S (sD S + 1)) X.F hg hi hzz hls.1 hls.2) q1115 q85 q1309 q1114 rfl ⟨by decide, by decide, by decide +kernel⟩ dX1_turn_130 rfl rfl (by first | exact Nat.le_of_ble_eq_true rfl | simp [kr_cat, Value.category]) ⟨by omega, by omega⟩ ⟨by omega, by omega⟩ (fun E => kjx_no) (fun v_130 => ?_)
    refine kj_open (fun q2 hq2 => ?_)
    obtain ⟨hv, hq2⟩ := hq2
    subst hv
    have hne : q2 ≠ q_121 := by
      intro e
      rw [e, kr_up_s] at hq2
      cases hq2
    have hq3 : Z (20, q2) = none := by
      rw [kr_up_n (fun z => hne (Prod.mk.inj z).2)] at hq2
      exact hq2
    have ez : kr_up (kr_up (kr_up Z (20, q_121) (kr_o 4 [.null, .null, .int 0])) (20, q2) (kr_al G (sL (uD S (sD S + 1)) 1 (sN S 11 (4 * p + 0))))) (20, q_121) (kr_o 4 [.ref (gA g (2, sN S 11 (4 * p + 0))), .ref q2, .int 0]) = kr_up (kr_up Z (20, q2) (kr_al G (sL (uD S (sD S + 1)) 1 (sN S 11 (4 * p + 0))))) (20, q_121) (kr_o 4 [.ref (gA g (2, sN S 11 (4 * p + 0))), .ref q2, .int 0]) := by
      funext r
      unfold kr_up
      split
      · rfl
      · split
        · rfl
        · rfl
    rw [ez]
    have hob : kr_obj (gA g) (kr_cells G g (uD S (sD S + 1)) (kr_up (kr_up Z (20, q2) (kr_al G (sL (uD S (sD S + 1)) 1 (sN S 11 (4 * p + 0))))) (20, q_121) (kr_o 4 [.ref (gA g (2, sN S 11 (4 * p + 0))), .ref q2, .int 0]))) (gA g (20, q_121)) := ⟨(20, q_121), 4, _, (by rw [kc_Z2, kr_up_s]), rfl, (by show (20 : Nat) ≠ 40; decide), by decide⟩
    refine kj_callF X 2 (ct_J2_set X.F (k8 _) (k := 0) (o := gA g (9, 4 * p + 0)) rfl hob) q1311 q1314 q1316 q46 q1318 q1313 q1312 q1317 q1315 q148 ⟨by decide, by decide, by decide +kernel⟩ dX1_turn_133 rfl rfl (by first | exact Nat.le_of_ble_eq_true rfl | simp [kr_cat, Value.category]) ⟨by omega, by omega⟩ ⟨by omega, by omega⟩ kc_J2.1 (fun H h => h.list (k8 _)) (fun E => kjx_no) (fun v_133 => ?_)
    refine kj_and (fun e_133 => ?_)
    subst e_133
    refine kj_pop X dX1_turn_138 (by first | rfl | exact kr_cat _) ?_
    refine kj_goto X 173 dX1_turn_139 (by decide) ?_
    refine kj_wide (cs' := cs + 5) (ss' := ss + 23) (by omega) (by omega) ?_
    refine kj_P (fun H h => ?_) (kk (gL (gFrame g (4 * p + 0) q_121 q2) (8, p) (gM g (8, p)) 10) _ ((gFrame_ok hg).1.mo (by simp)) (gFrame_ok hg).2)
    refine kr_S.frame (S := uD S (sD S + 1)) (p := p) (d := 0) (n := 1) (i := sN S 11 (4 * p + 0)) (q := q_121) (q2 := q2) (mc := gM g (8, p)) hp1 hV1.2.1 hg hi (by decide) (by decide) (by show sN S 5 p ≤ 1; omega) (fun d h2 h3 => by omega) hZ h_q_121 hq3 hne ?_
    have el : (List.range 1).map (fun d' => if d' = 0 then q_121 else gA g (9, 4 * p + d')) = [gA g (20, q_121)] := by
      rw [hg.2.2]
      rfl
    rw [el]
    exact h
  | false =>
    have hlen : m < (sL S 4 (4 * p + (sN S 5 p - 1))).length := by
      rw [efo] at ho
      exact Nat.not_le.mp (of_decide_eq_false ho)
    have hnx : (sI S 5 (kt_top S p)).toNatClampNeg = m := by
      show (sI S 5 (4 * p + (sN S 5 p - 1))).toNatClampNeg = m
      rw [f5]
      exact nI_clamp (by omega)
    obtain ⟨q, hq⟩ : ∃ q, (sL S 4 (4 * p + (sN S 5 p - 1)))[m]? = some q := ⟨_, List.getElem?_eq_getElem hlen⟩
    have hqm : q ∈ sL S 4 (4 * p + (sN S 5 p - 1)) := List.mem_of_getElem? hq
    obtain ⟨c1, c2⟩ := f3 q hqm
    have e5 : sI S 5 (kt_top S p) = nI m := f5
    have eo : oLine1 S p k = oAct (uI (uD S (sD S + 1)) 5 (kt_top S p) (nI (m + 1))) p k q := by
      unfold oLine1
      rw [if_neg (by rw [ho]; decide), hnx, e5, nI_1]
      show oAct _ p k ((sL S 4 (4 * p + (sN S 5 p - 1)))[m]?.getD 0) = _
      rw [hq]
      rfl
    rw [eo] at kk
    have hV2 : kr_V (uI (uD S (sD S + 1)) 5 (kt_top S p) (nI (m + 1))) := hV.lon.next (by omega)
    refine kj_if_eq X 142 dX1_turn_113 (by decide) (fun c_113 => ?_) (fun c_113 => ?_)
    rotate_left
    · exact absurd rfl c_113
    refine kj_aload X dX1_turn_142 rfl (by first | exact ⟨some _, rfl⟩ | exact ⟨none, rfl⟩ | exact ⟨_, rfl⟩) ?_
    refine kj_dup X dX1_turn_144 (by first | rfl | exact kr_cat _) ?_
    refine kj_getN X kc_X17 2 (by decide) q1127 rfl dX1_turn_145 (fun H h => h.own (kc_9 (S := uD S (sD S + 1)) (d := sN S 5 p - 1) hp1 (by omega) (by show _ < sN S 5 p; omega))) rfl ?_
    rw [show sI (uD S (sD S + 1)) 5 (4 * p + (sN S 5 p - 1)) = nI m from f5]
    refine kj_iconst (v := 1) X dX1_turn_148 (by decide) ?_
    refine kj_iadd X dX1_turn_149 ?_
    rw [nI_1]
    refine kj_putN X kc_X17 2 (by decide) q1127 rfl rfl dX1_turn_150 (by first | rfl | exact kr_nar _ _ | exact kr_narb _) (by first | rfl | exact kr_fitr _ _ | exact kr_fitb _) (Nat.le_of_ble_eq_true rfl) (fun H h => h.own (kc_9 (S := uD S (sD S + 1)) (d := sN S 5 p - 1) hp1 (by omega) (by show _ < sN S 5 p; omega))) (fun H H1 h a u => h.upd (kc_9 (S := uD S (sD S + 1)) (d := sN S 5 p - 1) hp1 (by omega) (by show _ < sN S 5 p; omega)) (ku_next (S := uD S (sD S + 1)) (d := sN S 5 p - 1) (v := nI (m + 1)) hp1 (by omega) (by show _ < sN S 5 p; omega)) a u) ?_
    refine kj_P (P' := kr_S G (gA g) (kr_cells G g (uI (uD S (sD S + 1)) 5 (4 * p + (sN S 5 p - 1)) (nI (m + 1))) Z)) (fun H h => h) ?_
    refine kj_aload X dX1_turn_153 rfl (by first | exact ⟨some _, rfl⟩ | exact ⟨none, rfl⟩ | exact ⟨_, rfl⟩) ?_
    refine kj_getN X kc_X17 1 (by decide) q1122 rfl dX1_turn_155 (fun H h => h.own (kc_9 (S := uI (uD S (sD S + 1)) 5 (4 * p + (sN S 5 p - 1)) (nI (m + 1))) (d := sN S 5 p - 1) hp1 (by omega) (by show _ < sN S 5 p; omega))) rfl ?_
    refine kj_aload X dX1_turn_158 rfl (by first | exact ⟨some _, rfl⟩ | exact ⟨none, rfl⟩ | exact ⟨_, rfl⟩) ?_
    refine kj_getN X kc_X17 2 (by decide) q1127 rfl dX1_turn_160 (fun H h => h.own (kc_9 (S := uI (uD S (sD S + 1)) 5 (4 * p + (sN S 5 p - 1)) (nI (m + 1))) (d := sN S 5 p - 1) hp1 (by omega) (by show _ < sN S 5 p; omega))) rfl ?_
    rw [sI_uI, if_pos ⟨rfl, rfl⟩]
    refine kj_iconst (v := 1) X dX1_turn_163 (by decide) ?_
    refine kj_isub X dX1_turn_164 ?_
    rw [kr_dec (by omega), Nat.add_sub_cancel]
    refine kj_aald X 7 rfl dX1_turn_165 (fun H h => h.own (kc_10 (S := uI (uD S (sD S + 1)) 5 (4 * p + (sN S 5 p - 1)) (nI (m + 1))) (d := sN S 5 p - 1) hp1 (by omega) (by show _ < sN S 5 p; omega))) (vp_in_nI (N := (sL S 4 (4 * p + (sN S 5 p - 1))).length) hlen (by omega)) ?_
    rw [nI_clamp (by omega : m < 2 ^ 31), show (sL (uI (uD S (sD S + 1)) 5 (4 * p + (sN S 5 p - 1)) (nI (m + 1))) 4 (4 * p + (sN S 5 p - 1)))[m]? = some q from hq]
    rw [show va_rf (some q) = Value.ref (gA g (17, q)) from by rw [(hg.1 q).2]; rfl]
    refine kj_aload_n X dX1_turn_166 rfl rfl (by first | exact ⟨some _, rfl⟩ | exact ⟨none, rfl⟩ | exact ⟨_, rfl⟩) ?_
    refine kj_aload_n X dX1_turn_167 rfl rfl (by first | exact ⟨some _, rfl⟩ | exact ⟨none, rfl⟩ | exact ⟨_, rfl⟩) ?_
    refine kj_aload_n X dX1_turn_168 rfl rfl (by first | exact ⟨some _, rfl⟩ | exact ⟨none, rfl⟩ | exact ⟨_, rfl⟩) ?_
    refine kj_act X hg hV2 hp1 hk (by show sN S 12 q ≠ 0; omega) hZ hR hroom ?_
    refine kj_open (fun g' hg' => ?_)
    refine kj_istore_n (lv' := [_, _, _, _, _, _]) X dX1_turn_172 rfl (by decide) (by intro w h _; cases h <;> first | rfl | exact kr_cat _) rfl ?_
    exact kk g' _ hg'.1 hg'.2
end
