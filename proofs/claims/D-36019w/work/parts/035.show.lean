/-! SHOW -/
set_option maxRecDepth 100000
/-- all that see it -/
def oSees (S : kr_St) (k s : Nat) : Nat → kr_St
  | 0 => S
  | n + 1 => if fSee (oSees S k s n) k s n then oSee (oSees S k s n) n s else oSees S k s n
def nSee (S : kr_St) (k s : Nat) : Nat := (List.range (sN S 2 0)).countP (fSee S k s)
/-- is it skipped -/
def fSkip (S : kr_St) (k s : Nat) : Bool := decide (0 < nAt S k ∧ nSee S k s = 0)
def oShow0 (S : kr_St) (k s : Nat) : kr_St := uI (uI S 4 k (nI s)) 0 0 (sI S 0 0 + 1)
def oShow (S : kr_St) (k s : Nat) : kr_St := if fSkip S k s then S else oSees (oShow0 S k s) k s (sN S 2 0)
theorem oSees_N {S : kr_St} {k s : Nat} (a b : Nat) (ha : a < 100) : ∀ n, sN (oSees S k s n) a b = sN S a b
  | 0 => rfl
  | n + 1 => by
    have ih := oSees_N a b ha n (S := S) (k := k) (s := s)
    show sN (if _ then _ else _) a b = _
    split
    · show sN (oSee _ _ _) a b = _
      unfold oSee
      rw [sN_uN, if_neg (by omega), sN_uI, ih]
    · exact ih
theorem oSees_b {S : kr_St} {k s : Nat} (hb : ∀ d, d < sN S 2 0 → sN S (d + 100) s < 2) : ∀ n d, d < sN S 2 0 → sN (oSees S k s n) (d + 100) s < 2
  | 0, d, h => hb d h
  | n + 1, d, h => by
    have ih := oSees_b hb n d h (k := k)
    show sN (if _ then _ else _) (d + 100) s < 2
    split
    · show sN (oSee _ _ _) (d + 100) s < 2
      unfold oSee
      rw [sN_uN]
      split
      · decide
      · exact ih
    · exact ih
section
variable {G : kr_G} {l : Launch} {g g' : kr_Gh} {S S' : kr_St} {Z : kr_Ro → Option kr_AE}
theorem nSee_le (S : kr_St) (k s : Nat) : nSee S k s ≤ sN S 2 0 := by
  unfold nSee
  refine Nat.le_trans List.countP_le_length ?_
  rw [List.length_range]
  exact Nat.le_refl _
theorem ct_X1_show (hF : kr_F G l) (hg : kr_gok g) {k s : Nat} (hV : sN S 2 0 ≤ 10) (hk : k < sN S 1 0) (hs : s < 100) (hat : ∀ d, d < sN S 2 0 → sN S 10 d ≤ sN S 1 0) (hb : ∀ d, d < sN S 2 0 → sN S (d + 100) s < 2) : kr_T G l yX1_show (ws_ yX1_show cX1_show 7 (Option.some Jvm.ClassFile.FieldType.boolean)) 10 3200 [.ref (gA g (0, 0)), .ref (gA g (5, k)), .int (nI s)] (kr_S G (gA g) (kr_cells G g S Z)) 5 15 (fun v H => v = some (.int (kr_b (!fSkip S k s))) ∧ kr_S G (gA g) (kr_cells G g (oShow S k s) Z) H) kr_no := by
  have hle := nAt_le S k
  have hle2 := nSee_le S k s
  refine kr_T.of (by decide +kernel) hF (by simp [Value.category]) (Nat.le_of_ble_eq_true rfl) (fun x hx X => ?_)
  refine kj_aload_n X dX1_show_0 rfl rfl (by first | exact ⟨some _, rfl⟩ | exact ⟨none, rfl⟩ | exact ⟨_, rfl⟩) ?_
  refine kj_aload_n X dX1_show_1 rfl rfl (by first | exact ⟨some _, rfl⟩ | exact ⟨none, rfl⟩ | exact ⟨_, rfl⟩) ?_
  refine kj_indy X (k := 5) (by decide) (by decide +kernel) (by decide +kernel) kr_lok_5 (by decide +kernel) (vals := [.ref (gA g (5, k))]) (rest := [.ref (gA g (0, 0))]) (Pn := fun q H => Z (40, q) = none ∧ kr_S G (gA g) (kr_cells G g S (kr_up Z (40, q) (kr_lam 5 [.ref (gA g (5, k))]))) H) (by decide +kernel) dX1_show_2 rfl (by show 1 = (kr_shp 5).captured.length; decide +kernel) (by first | exact kr_fitP (by decide +kernel) | exact kr_fitK (by decide +kernel) | exact kr_fit2) ⟨Nat.le_of_ble_eq_true rfl, Nat.le_of_ble_eq_true rfl⟩ ⟨by dsimp only; omega, by dsimp only [List.length]; omega⟩ (fun H H1 h ho a u => h.mk hg.1 a ho u) (fun q_2 => ?_)
  refine kj_and (fun h_q_2 => ?_)
  rw [show ([.ref (gA g (5, k))] : List Value).length = 1 from rfl]
  refine kj_callV X 1 (ct_X1_countVisitors X.F hg (by omega) (hr_show1 X.F hg.1 hk hat)) (lw_V q1378 q1340 qs16 q43 q1341) ⟨rfl, by decide, by decide, by decide +kernel⟩ dX1_show_7 rfl rfl (by first | exact Nat.le_of_ble_eq_true rfl | simp [kr_cat, Value.category]) ⟨Nat.le_of_ble_eq_true rfl, Nat.le_of_ble_eq_true rfl⟩ ⟨by dsimp only; omega, by dsimp only; omega⟩ kc_X1.1 (fun H h => h.rc (kc_kio)) (fun E => kjx_no) (fun v_7 => ?_)
  refine kj_and (fun e_7 => ?_)
  subst e_7
  refine kj_P (P' := kr_S G (gA g) (kr_cells G g S Z)) (fun H h => h.tidy h_q_2) ?_
  rw [show (List.range (sN S 2 0)).countP (fAt S k) = nAt S k from rfl]
  refine kj_istore_n (lv' := [_, _, _, _, _, _, _]) X dX1_show_10 rfl (by decide) (by intro w h _; cases h <;> first | rfl | exact kr_cat _) rfl ?_
  refine kj_aload_n X dX1_show_11 rfl rfl (by first | exact ⟨some _, rfl⟩ | exact ⟨none, rfl⟩ | exact ⟨_, rfl⟩) ?_
  refine kj_aload_n X dX1_show_12 rfl rfl (by first | exact ⟨some _, rfl⟩ | exact ⟨none, rfl⟩ | exact ⟨_, rfl⟩) ?_
  refine kj_iload_n X dX1_show_13 rfl rfl ?_
  refine kj_indy X (k := 6) (by decide) (by decide +kernel) (by decide +kernel) kr_lok_6 (by decide +kernel) (vals := [.ref (gA g (5, k)), .int (nI s)]) (rest := [.ref (gA g (0, 0))]) (Pn := fun q H => Z (40, q) = none ∧ kr_S G (gA g) (kr_cells G g S (kr_up Z (40, q) (kr_lam 6 [.ref (gA g (5, k)), .int (nI s)]))) H) (by decide +kernel) dX1_show_14 rfl (by show 2 = (kr_shp 6).captured.length; decide +kernel) (by first | exact kr_fitP (by decide +kernel) | exact kr_fitK (by decide +kernel) | exact kr_fit2) ⟨Nat.le_of_ble_eq_true rfl, Nat.le_of_ble_eq_true rfl⟩ ⟨by dsimp only; omega, by dsimp only [List.length]; omega⟩ (fun H H1 h ho a u => h.mk hg.1 a ho u) (fun q_14 => ?_)
  refine kj_and (fun h_q_14 => ?_)
  rw [show ([.ref (gA g (5, k)), .int (nI s)] : List Value).length = 2 from rfl]
  refine kj_callV X 1 (ct_X1_countVisitors X.F hg (by omega) (hr_show2 X.F hg.1 hk hs hb hat)) (lw_V q1378 q1340 qs16 q43 q1341) ⟨rfl, by decide, by decide, by decide +kernel⟩ dX1_show_19 rfl rfl (by first | exact Nat.le_of_ble_eq_true rfl | simp [kr_cat, Value.category]) ⟨Nat.le_of_ble_eq_true rfl, Nat.le_of_ble_eq_true rfl⟩ ⟨by dsimp only; omega, by dsimp only; omega⟩ kc_X1.1 (fun H h => h.rc (kc_kio)) (fun E => kjx_no) (fun v_19 => ?_)
  refine kj_and (fun e_19 => ?_)
  subst e_19
  refine kj_P (P' := kr_S G (gA g) (kr_cells G g S Z)) (fun H h => h.tidy h_q_14) ?_
  rw [show (List.range (sN S 2 0)).countP (fSee S k s) = nSee S k s from rfl]
  have goes : fSkip S k s = false → kr_J G x 7 (kr_Q G x 5 15 (fun v H => v = some (.int (kr_b (!fSkip S k s))) ∧ kr_S G (gA g) (kr_cells G g (oShow S k s) Z) H) kr_no) (kr_S G (gA g) (kr_cells G g S Z)) 4 11 35 [some (.ref (gA g (0, 0))), some (.ref (gA g (5, k))), some (.int (nI s)), some (.int (nI (nAt S k))), some (.int (nI (nSee S k s))), none, none] [] := by
    intro hskip
    have eo : oShow S k s = oSees (oShow0 S k s) k s (sN S 2 0) := by
      unfold oShow
      rw [if_neg (by rw [hskip]; decide)]
    rw [eo, hskip]
    have hk1 : k < sN (uI S 4 k (nI s)) 1 0 := hk
    refine kj_aload_n X dX1_show_35 rfl rfl (by first | exact ⟨some _, rfl⟩ | exact ⟨none, rfl⟩ | exact ⟨_, rfl⟩) ?_
    refine kj_iload_n X dX1_show_36 rfl rfl ?_
    refine kj_putN X kc_X15 6 (by decide) q1076 rfl rfl dX1_show_37 (by first | rfl | exact kr_nar _ _ | exact kr_narb _) (by first | rfl | exact kr_fitr _ _ | exact kr_fitb _) (Nat.le_of_ble_eq_true rfl) (fun H h => h.own (kc_5 hk)) (fun H H1 h a u => h.upd (kc_5 hk) (ku_slide (v := nI s) hk) a u) ?_
    refine kj_aload_n X dX1_show_40 rfl rfl (by first | exact ⟨some _, rfl⟩ | exact ⟨none, rfl⟩ | exact ⟨_, rfl⟩) ?_
    refine kj_dup X dX1_show_41 (by first | rfl | exact kr_cat _) ?_
    refine kj_get X kc_X1 4 (by decide) q232 (Or.inl rfl) dX1_show_42 (fun H h => h.own (kc_kio (S := uI S 4 k (nI s)))) rfl ?_
    refine kj_iconst (v := 1) X dX1_show_45 (by decide) ?_
    refine kj_iadd X dX1_show_46 ?_
    refine kj_put X kc_X1 4 (by decide) q232 (Or.inl rfl) rfl dX1_show_47 (by first | rfl | exact kr_nar _ _ | exact kr_narb _) (by first | rfl | exact kr_fitr _ _ | exact kr_fitb _) (Nat.le_of_ble_eq_true rfl) (fun H h => h.own (kc_kio (S := uI S 4 k (nI s)))) (fun H H1 h a u => h.upd (kc_kio (S := uI S 4 k (nI s))) (ku_shown (S := uI S 4 k (nI s)) (v := sI S 0 0 + 1)) a u) ?_
    refine kj_P (P' := kr_S G (gA g) (kr_cells G g (oShow0 S k s) Z)) (fun H h => h) ?_
    refine kj_aload_n X dX1_show_50 rfl rfl (by first | exact ⟨some _, rfl⟩ | exact ⟨none, rfl⟩ | exact ⟨_, rfl⟩) ?_
    refine kj_get X kc_X1 3 (by decide) q231 (Or.inl rfl) dX1_show_51 (fun H h => h.own (kc_kio (S := oShow0 S k s))) rfl ?_
    refine kj_callF X 0 (ct_J2_iterator X.F hg.1 (Or.inl ⟨_, kc_l3 (S := oShow0 S k s)⟩)) q262 q265 q267 q46 q269 q264 q263 q268 q266 q148 ⟨by decide, by decide, by decide +kernel⟩ dX1_show_54 rfl rfl (by first | exact Nat.le_of_ble_eq_true rfl | simp [kr_cat, Value.category]) ⟨Nat.le_of_ble_eq_true rfl, Nat.le_of_ble_eq_true rfl⟩ ⟨by dsimp only; omega, by dsimp only; omega⟩ kc_J2.1 (fun H h => h.list (kc_l3 (S := oShow0 S k s))) (fun E => kjx_no) (fun v_54 => ?_)
    refine kj_open (fun q hq => ?_)
    obtain ⟨hv, hq0⟩ := hq
    subst hv
    rw [kc_Zt] at hq0
    rw [kc_upt]
    rw [show (some (Value.ref q)).toList = [Value.ref (gA g (40, q))] from by rw [(hg.1 q).1]; rfl]
    refine kj_astore (lv' := [_, _, _, _, _, _, _]) X dX1_show_59 (by decide) (by intro w h _; cases h <;> first | rfl | exact kr_cat _) (by first | exact ⟨some _, rfl⟩ | exact ⟨none, rfl⟩ | exact ⟨_, rfl⟩) rfl ?_
    have hlen : ((List.range (sN S 2 0)).map fun i => gA g (13, i)).length = sN S 2 0 := by rw [List.length_map, List.length_range]
    have loop : ∀ m n lr d6, n + m = sN S 2 0 → kr_J G x 7 (kr_Q G x 5 15 (fun v H => v = some (.int (kr_b (!false))) ∧ kr_S G (gA g) (kr_cells G g (oSees (oShow0 S k s) k s (sN S 2 0)) Z) H) kr_no) (kr_S G (gA g) (kr_cells G g (oSees (oShow0 S k s) k s n) (kr_up Z (40, q) (some (kr_it (gA g) (1, 3) (nI n) lr (gM g (1, 3))))))) 5 15 61 [some (.ref (gA g (0, 0))), some (.ref (gA g (5, k))), some (.int (nI s)), some (.int (nI (nAt S k))), some (.int (nI (nSee S k s))), some (.ref (gA g (40, q))), d6] [] := by
      intro m
      induction m with
      | zero =>
        intro n lr d6 hn
        have hV2 : sN (oSees (oShow0 S k s) k s n) 2 0 = sN S 2 0 := oSees_N 2 0 (by decide) n
        have hj : kr_cells G g (oSees (oShow0 S k s) k s n) (kr_up Z (40, q) (some (kr_it (gA g) (1, 3) (nI n) lr (gM g (1, 3))))) (40, q) = some (kr_it (gA g) (1, 3) (nI n) lr (gM g (1, 3))) := by rw [kc_Zt, kr_up_s]
        have hl3 : kr_cells G g (oSees (oShow0 S k s) k s n) (kr_up Z (40, q) (some (kr_it (gA g) (1, 3) (nI n) lr (gM g (1, 3))))) (1, 3) = kr_li g (1, 3) ((List.range (sN S 2 0)).map fun i => gA g (13, i)) := by rw [kc_l3, hV2]
        refine kj_aload X dX1_show_61 rfl (by first | exact ⟨some _, rfl⟩ | exact ⟨none, rfl⟩ | exact ⟨_, rfl⟩) ?_
        refine kj_callF X 0 (ct_J22_hasNext X.F (Or.inl ⟨_, hl3⟩) (by rw [hlen]; omega) (by rw [hlen]; omega) hj) q290 q294 q296 q81 q298 q292 q291 q297 q295 q293 ⟨by decide, by decide, by decide +kernel⟩ dX1_show_63 rfl rfl (by first | exact Nat.le_of_ble_eq_true rfl | simp [kr_cat, Value.category]) ⟨Nat.le_of_ble_eq_true rfl, Nat.le_of_ble_eq_true rfl⟩ ⟨by dsimp only; omega, by dsimp only; omega⟩ kc_J22.1 (fun H h => h.rc (hj)) (fun E => kjx_no) (fun v_63 => ?_)
        refine kj_and (fun e_63 => ?_)
        subst e_63
        rw [hlen, show decide (n < sN S 2 0) = false from decide_eq_false (by omega)]
        refine kj_if_eq X 110 dX1_show_68 (by decide) (fun c_68 => ?_) (fun c_68 => ?_)
        · obtain rfl : n = sN S 2 0 := by omega
          refine kj_iconst (v := 1) X dX1_show_110 (by decide) ?_
          exact kj_zret X rfl dX1_show_111 (by omega) (by omega) (fun H h => ⟨rfl, h.tidy hq0⟩)
        · exact absurd rfl c_68
      | succ m ih =>
        intro n lr d6 hn
        have hd : n < sN S 2 0 := by omega
        have hV2 : sN (oSees (oShow0 S k s) k s n) 2 0 = sN S 2 0 := oSees_N 2 0 (by decide) n
        have hd2 : n < sN (oSees (oShow0 S k s) k s n) 2 0 := by rw [hV2]; exact hd
        have hk2 : k < sN (oSees (oShow0 S k s) k s n) 1 0 := by rw [oSees_N 1 0 (by decide) n]; exact hk
        have hat2 : sN (oSees (oShow0 S k s) k s n) 10 n ≤ sN (oSees (oShow0 S k s) k s n) 1 0 := by rw [oSees_N 1 0 (by decide) n, oSees_N 10 n (by decide) n]; exact hat n hd
        have hb2 : sN (oSees (oShow0 S k s) k s n) (n + 100) s < 2 := oSees_b (S := oShow0 S k s) hb n n hd
        have hj : kr_cells G g (oSees (oShow0 S k s) k s n) (kr_up Z (40, q) (some (kr_it (gA g) (1, 3) (nI n) lr (gM g (1, 3))))) (40, q) = some (kr_it (gA g) (1, 3) (nI n) lr (gM g (1, 3))) := by rw [kc_Zt, kr_up_s]
        have hl3 : kr_cells G g (oSees (oShow0 S k s) k s n) (kr_up Z (40, q) (some (kr_it (gA g) (1, 3) (nI n) lr (gM g (1, 3))))) (1, 3) = kr_li g (1, 3) ((List.range (sN S 2 0)).map fun i => gA g (13, i)) := by rw [kc_l3, hV2]
        have step : oSees (oShow0 S k s) k s (n + 1) = if fSee (oSees (oShow0 S k s) k s n) k s n then oSee (oSees (oShow0 S k s) k s n) n s else oSees (oShow0 S k s) k s n := rfl
        have nxt := fun d6 => ih (n + 1) (nI n) d6 (by omega)
        rw [step] at nxt
        generalize oSees (oShow0 S k s) k s n = U at *
        refine kj_aload X dX1_show_61 rfl (by first | exact ⟨some _, rfl⟩ | exact ⟨none, rfl⟩ | exact ⟨_, rfl⟩) ?_
        refine kj_callF X 0 (ct_J22_hasNext X.F (Or.inl ⟨_, hl3⟩) (by rw [hlen]; omega) (by rw [hlen]; omega) hj) q290 q294 q296 q81 q298 q292 q291 q297 q295 q293 ⟨by decide, by decide, by decide +kernel⟩ dX1_show_63 rfl rfl (by first | exact Nat.le_of_ble_eq_true rfl | simp [kr_cat, Value.category]) ⟨Nat.le_of_ble_eq_true rfl, Nat.le_of_ble_eq_true rfl⟩ ⟨by dsimp only; omega, by dsimp only; omega⟩ kc_J22.1 (fun H h => h.rc (hj)) (fun E => kjx_no) (fun v_63 => ?_)
        refine kj_and (fun e_63 => ?_)
        subst e_63
        rw [hlen, show decide (n < sN S 2 0) = true from decide_eq_true hd]
        refine kj_if_eq X 110 dX1_show_68 (by decide) (fun c_68 => ?_) (fun c_68 => ?_)
        · exact absurd c_68 (by decide)
        refine kj_aload X dX1_show_71 rfl (by first | exact ⟨some _, rfl⟩ | exact ⟨none, rfl⟩ | exact ⟨_, rfl⟩) ?_
        refine kj_callF X 0 (ct_J22_next X.F hl3 (a := gA g (13, n)) (by rw [List.getElem?_map, List.getElem?_range hd]; rfl) hj) q300 q303 q305 q81 q307 q302 q301 q306 q304 q293 ⟨by decide, by decide, by decide +kernel⟩ dX1_show_73 rfl rfl (by first | exact Nat.le_of_ble_eq_true rfl | simp [kr_cat, Value.category]) ⟨Nat.le_of_ble_eq_true rfl, Nat.le_of_ble_eq_true rfl⟩ ⟨by dsimp only; omega, by dsimp only; omega⟩ kc_J22.1 (fun H h => h.rc (hj)) (fun E => kjx_no) (fun v_73 => ?_)
        refine kj_and (fun e_73 => ?_)
        subst e_73
        rw [kc_upt, kr_up_up]
        refine kj_pure (fun H h => kr_S.isk h (n := sN U 10 n) (by omega) hk2) (fun hiff => ?_)
        refine kj_ccastR X kc_X18.1 q468 dX1_show_78 (fun H h => h.at (kc_13 hd2)) ?_
        refine kj_astore (lv' := [_, _, _, _, _, _, _]) X dX1_show_81 (by decide) (by intro w h _; cases h <;> first | rfl | exact kr_cat _) (by first | exact ⟨some _, rfl⟩ | exact ⟨none, rfl⟩ | exact ⟨_, rfl⟩) rfl ?_
        refine kj_aload X dX1_show_83 rfl (by first | exact ⟨some _, rfl⟩ | exact ⟨none, rfl⟩ | exact ⟨_, rfl⟩) ?_
        refine kj_getN X kc_X18 3 (by decide) q1482 rfl dX1_show_85 (fun H h => h.own (kc_13 hd2)) rfl ?_
        refine kj_aload_n X dX1_show_88 rfl rfl (by first | exact ⟨some _, rfl⟩ | exact ⟨none, rfl⟩ | exact ⟨_, rfl⟩) ?_
        refine kj_acmp_ne X (by first | exact Eq.refl (va_rf (some _)) | exact Eq.refl (va_rf none) | exact Eq.refl (va_rf _)) (by first | exact Eq.refl (va_rf (some _)) | exact Eq.refl (va_rf none) | exact Eq.refl (va_rf _)) 107 dX1_show_89 (by decide) (fun c_89 => ?_) (fun c_89 => ?_)
        · have e : fSee U k s n = false := by
            unfold fSee
            rw [decide_eq_false (fun z => c_89 (hiff.mpr z))]
            rfl
          have n2 := nxt (some (.ref (gA g (13, n))))
          rw [if_neg (by rw [e]; decide)] at n2
          refine kj_goto X 61 dX1_show_107 (by decide) ?_
          exact n2
        · have e1 : fSee U k s n = oWould U n s := by
            unfold fSee
            rw [decide_eq_true (hiff.mp c_89)]
            rfl
          have n2 := nxt (some (.ref (gA g (13, n))))
          refine kj_aload X dX1_show_92 rfl (by first | exact ⟨some _, rfl⟩ | exact ⟨none, rfl⟩ | exact ⟨_, rfl⟩) ?_
          refine kj_iload_n X dX1_show_94 rfl rfl ?_
          refine kj_callV X 1 (ct_X18_wouldSee X.F hd2 hs hb2) (lw_V q1381 q1382 q1383 q86 q1384) ⟨rfl, by decide, by decide, by decide +kernel⟩ dX1_show_95 rfl rfl (by first | exact Nat.le_of_ble_eq_true rfl | simp [kr_cat, Value.category]) ⟨Nat.le_of_ble_eq_true rfl, Nat.le_of_ble_eq_true rfl⟩ ⟨by dsimp only; omega, by dsimp only; omega⟩ kc_X18.1 (fun H h => h.rc (kc_13 hd2)) (fun E => kjx_no) (fun v_95 => ?_)
          refine kj_and (fun e_95 => ?_)
          subst e_95
          cases hw : oWould U n s with
          | false =>
            rw [if_neg (by rw [e1, hw]; decide)] at n2
            refine kj_if_eq X 107 dX1_show_98 (by decide) (fun c_98 => ?_) (fun c_98 => ?_)
            · refine kj_goto X 61 dX1_show_107 (by decide) ?_
              exact n2
            · exact absurd rfl c_98
          | true =>
            rw [if_pos (by rw [e1, hw])] at n2
            refine kj_if_eq X 107 dX1_show_98 (by decide) (fun c_98 => ?_) (fun c_98 => ?_)
            · exact absurd c_98 (by decide)
            refine kj_aload X dX1_show_101 rfl (by first | exact ⟨some _, rfl⟩ | exact ⟨none, rfl⟩ | exact ⟨_, rfl⟩) ?_
            refine kj_iload_n X dX1_show_103 rfl rfl ?_
            refine kj_callV X 1 (ct_X18_see X.F hd2 hs) (lw_V q1385 q1386 q1387 q86 q1388) ⟨rfl, by decide, by decide, by decide +kernel⟩ dX1_show_104 rfl rfl (by first | exact Nat.le_of_ble_eq_true rfl | simp [kr_cat, Value.category]) ⟨Nat.le_of_ble_eq_true rfl, Nat.le_of_ble_eq_true rfl⟩ ⟨by dsimp only; omega, by dsimp only; omega⟩ kc_X18.1 (fun H h => h.rc (kc_13 hd2)) (fun E => kjx_no) (fun v_104 => ?_)
            refine kj_and (fun e_104 => ?_)
            subst e_104
            refine kj_goto X 61 dX1_show_107 (by decide) ?_
            exact n2
    exact loop (sN S 2 0) 0 (-1) none (by omega)
  refine kj_istore (lv' := [_, _, _, _, _, _, _]) X dX1_show_22 (by decide) (by intro w h _; cases h <;> first | rfl | exact kr_cat _) rfl ?_
  refine kj_iload_n X dX1_show_24 rfl rfl ?_
  refine kj_if_le X 35 dX1_show_25 (by decide) (fun c_25 => ?_) (fun c_25 => ?_)
  · have e : nAt S k = 0 := by
      by_cases h0 : nAt S k = 0
      · exact h0
      · exact absurd c_25 (Int32.not_le.mpr (nI_lt (a := 0) (by omega) (by omega)))
    refine goes ?_
    exact decide_eq_false (fun z => by omega)
  have e : 0 < nAt S k := by
    by_cases h0 : nAt S k = 0
    · rw [h0] at c_25
      exact absurd (Int32.le_refl _) c_25
    · omega
  refine kj_iload X dX1_show_28 rfl ?_
  refine kj_if_ne X 35 dX1_show_30 (by decide) (fun c_30 => ?_) (fun c_30 => ?_)
  · refine goes (decide_eq_false (fun z => c_30 (by rw [z.2]; rfl)))
  have e2 : nSee S k s = 0 := (nI_eq (b := 0) (by omega) (by omega)).mp c_30
  have hskip : fSkip S k s = true := decide_eq_true ⟨e, e2⟩
  unfold oShow
  rw [if_pos hskip, hskip]
  refine kj_iconst (v := 0) X dX1_show_33 (by decide) ?_
  exact kj_zret X rfl dX1_show_34 (by omega) (by omega) (fun H h => ⟨rfl, h⟩)
/-- Show -/
theorem ct_X6_act (hF : kr_F G l) (hg : kr_gok g) {k q s : Nat} (hq : sN S 12 q = 8) (hn : sI S 6 q = nI s) (hV : sN S 2 0 ≤ 10) (hk : k < sN S 1 0) (hs : s < 100) (hat : ∀ d, d < sN S 2 0 → sN S 10 d ≤ sN S 1 0) (hb : ∀ d, d < sN S 2 0 → sN S (d + 100) s < 2) (a0 : Nat) : kr_T G l yX6_act (ws_ yX6_act cX6_act 4 (Option.some Jvm.ClassFile.FieldType.boolean)) 11 3300 [.ref (gA g (17, q)), .ref (gA g (0, 0)), .ref a0, .ref (gA g (5, k))] (kr_S G (gA g) (kr_cells G g S Z)) 5 15 (fun v H => v = some (.int (kr_b (fSkip S k s))) ∧ kr_S G (gA g) (kr_cells G g (oShow S k s) Z) H) kr_no := by
  have k17 : kr_cells G g S Z (17, q) = kr_o 8 [.int (sI S 6 q)] := by rw [kc_17 (by omega), hq]
  refine kr_T.of (by decide +kernel) hF (by simp [Value.category]) (Nat.le_of_ble_eq_true rfl) (fun x hx X => ?_)
  refine kj_aload_n X dX6_act_0 rfl rfl (by first | exact ⟨some _, rfl⟩ | exact ⟨none, rfl⟩ | exact ⟨_, rfl⟩) ?_
  refine kj_aload_n X dX6_act_1 rfl rfl (by first | exact ⟨some _, rfl⟩ | exact ⟨none, rfl⟩ | exact ⟨_, rfl⟩) ?_
  refine kj_aload_n X dX6_act_2 rfl rfl (by first | exact ⟨some _, rfl⟩ | exact ⟨none, rfl⟩ | exact ⟨_, rfl⟩) ?_
  refine kj_getN X kc_X6 0 (by decide) q624 rfl dX6_act_3 (fun H h => h.own (k17)) rfl ?_
  rw [hn]
  refine kj_callVN X 2 (ct_X1_show X.F hg hV hk hs hat hb) q1375 q43 q1372 q1374 qs17 ⟨by decide, by decide, by decide +kernel⟩ dX6_act_6 rfl rfl (by first | exact Nat.le_of_ble_eq_true rfl | simp [kr_cat, Value.category]) ⟨Nat.le_of_ble_eq_true rfl, Nat.le_of_ble_eq_true rfl⟩ ⟨by dsimp only; omega, by dsimp only; omega⟩ kc_X1.1 (fun H h => h.rc (kc_kio)) (fun E => kjx_no) (fun v_6 => ?_)
  refine kj_and (fun e_6 => ?_)
  subst e_6
  cases hw : fSkip S k s with
  | false =>
    refine kj_if_ne X 16 dX6_act_9 (by decide) (fun c_9 => ?_) (fun c_9 => ?_)
    · refine kj_iconst (v := 0) X dX6_act_16 (by decide) ?_
      exact kj_zret X rfl dX6_act_17 (by omega) (by omega) (fun H h => ⟨rfl, h⟩)
    · exact absurd c_9 (by decide)
  | true =>
    refine kj_if_ne X 16 dX6_act_9 (by decide) (fun c_9 => ?_) (fun c_9 => ?_)
    · exact absurd rfl c_9
    · refine kj_iconst (v := 1) X dX6_act_12 (by decide) ?_
      refine kj_goto X 17 dX6_act_13 (by decide) ?_
      exact kj_zret X rfl dX6_act_17 (by omega) (by omega) (fun H h => ⟨rfl, h⟩)
end
