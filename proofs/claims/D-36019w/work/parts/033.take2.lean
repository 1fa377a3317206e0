/-! TAKE, ALONE: the methods that count -/
set_option maxRecDepth 100000
theorem kr_fitP {k a : Nat} (hk : (kr_shp k).captured = [.object "KioskReel$Player"]) : ((kr_shp k).captured.zip [Value.ref a]).all (fun q => decide (narrow q.1 q.2 = q.2) && fits q.1 q.2) = true := by
  rw [hk]
  simp [narrow, fits]
theorem kr_fitK {k a : Nat} (hk : (kr_shp k).captured = [.object "KioskReel$Kiosk"]) : ((kr_shp k).captured.zip [Value.ref a]).all (fun q => decide (narrow q.1 q.2 = q.2) && fits q.1 q.2) = true := by
  rw [hk]
  simp [narrow, fits]
theorem kr_fit2 {a : Nat} {i : Int32} : ((kr_shp 6).captured.zip [Value.ref a, Value.int i]).all (fun q => decide (narrow q.1 q.2 = q.2) && fits q.1 q.2) = true := by
  rw [show (kr_shp 6).captured = [.object "KioskReel$Kiosk", .int] by decide +kernel]
  simp [narrow, fits]
section
variable {G : kr_G} {l : Launch} {g g' : kr_Gh} {S S' : kr_St} {Z : kr_Ro → Option kr_AE}
def nHeld (S : kr_St) (p : Nat) : Nat := (List.range (sN S 14 0)).countP (fHold S p)
def oTake (S : kr_St) (p d : Nat) : kr_St := if sN S 9 d = p + 1 ∨ nHeld S p = 3 then S else if sN S 9 d = 0 then uN S 9 d (p + 1) else uN (uL S 3 d (sL S 3 d ++ [p])) 8 p 1
theorem ct_X1_take (hF : kr_F G l) (hg : kr_gok g) {p d : Nat} (hD : sN S 14 0 = 6) (hp : sN S 15 p = 1) (hd : d < 6) (hho : ∀ d, d < sN S 14 0 → ∀ j, sN S 9 d = j + 1 → sN S 15 j = 1) (hl : (sL S 3 d).length ≤ 9) : kr_T G l yX1_take (ws_ yX1_take cX1_take 4 (Option.none : Option Jvm.ClassFile.FieldType)) 10 3200 [.ref (gA g (0, 0)), .ref (gA g (7, p)), .ref (gA g (11, d))] (kr_S G (gA g) (kr_cells G g S Z)) 3 15 (fun v H => v = none ∧ kr_Hx G [12] g (oTake S p d) Z H) kr_no := by
  have hd6 : d < sN S 14 0 := by omega
  refine kr_T.of (by decide +kernel) hF (by simp [Value.category]) (Nat.le_of_ble_eq_true rfl) (fun x hx X => ?_)
  refine kj_pure (fun H h => kr_S.isp h (hho d hd6) hp) (fun hiff => ?_)
  refine kj_pure (fun H h => h.fits (kc_12 hd6)) (fun hcap => ?_)
  refine kj_aload_n X dX1_take_0 rfl rfl (by first | exact ⟨some _, rfl⟩ | exact ⟨none, rfl⟩ | exact ⟨_, rfl⟩) ?_
  refine kj_aload_n X dX1_take_1 rfl rfl (by first | exact ⟨some _, rfl⟩ | exact ⟨none, rfl⟩ | exact ⟨_, rfl⟩) ?_
  refine kj_indy X (k := 7) (by decide) (by decide +kernel) (by decide +kernel) kr_lok_7 (by decide +kernel) (vals := [.ref (gA g (7, p))]) (rest := [.ref (gA g (0, 0))]) (Pn := fun q H => Z (40, q) = none ∧ kr_S G (gA g) (kr_cells G g S (kr_up Z (40, q) (kr_lam 7 [.ref (gA g (7, p))]))) H) (by decide +kernel) dX1_take_2 rfl (by show 1 = (kr_shp 7).captured.length; decide +kernel) (by first | exact kr_fitP (by decide +kernel) | exact kr_fitK (by decide +kernel) | exact kr_fit2) ⟨Nat.le_of_ble_eq_true rfl, Nat.le_of_ble_eq_true rfl⟩ ⟨by dsimp only; omega, by dsimp only [List.length]; omega⟩ (fun H H1 h ho a u => h.mk hg.1 a ho u) (fun q_2 => ?_)
  refine kj_and (fun h_q_2 => ?_)
  rw [show ([.ref (gA g (7, p))] : List Value).length = 1 from rfl]
  refine kj_callV X 1 (ct_X1_countDevices X.F hg (by omega) (hr_take X.F hg.1 hp hho)) (lw_V q257 q259 qs3 q43 q260) ⟨rfl, by decide, by decide, by decide +kernel⟩ dX1_take_7 rfl rfl (by first | exact Nat.le_of_ble_eq_true rfl | simp [kr_cat, Value.category]) ⟨Nat.le_of_ble_eq_true rfl, Nat.le_of_ble_eq_true rfl⟩ ⟨by dsimp only; omega, by dsimp only; omega⟩ kc_X1.1 (fun H h => h.rc (kc_kio)) (fun E => kjx_no) (fun v_7 => ?_)
  refine kj_and (fun e_7 => ?_)
  subst e_7
  refine kj_P (P' := kr_S G (gA g) (kr_cells G g S Z)) (fun H h => h.tidy h_q_2) ?_
  have hnn : nHeld S p ≤ 6 := by
    unfold nHeld
    refine Nat.le_trans List.countP_le_length ?_
    rw [List.length_range, hD]
    exact Nat.le_refl _
  have back : kr_J G x 4 (kr_Q G x 3 15 (fun v H => v = none ∧ kr_Hx G [12] g (oTake S p d) Z H) kr_no) (kr_S G (gA g) (kr_cells G g S Z)) 2 5 19 [some (.ref (gA g (0, 0))), some (.ref (gA g (7, p))), some (.ref (gA g (11, d))), none] [.int (kr_b (decide (nHeld S p = 3)))] := by
    refine kj_istore_n (lv' := [_, _, _, _]) X dX1_take_19 rfl (by decide) (by intro w h _; cases h <;> first | rfl | exact kr_cat _) rfl ?_
    refine kj_aload_n X dX1_take_20 rfl rfl (by first | exact ⟨some _, rfl⟩ | exact ⟨none, rfl⟩ | exact ⟨_, rfl⟩) ?_
    refine kj_getN X kc_X2 1 (by decide) q138 rfl dX1_take_21 (fun H h => h.own (kc_11 hd6)) rfl ?_
    refine kj_aload_n X dX1_take_24 rfl rfl (by first | exact ⟨some _, rfl⟩ | exact ⟨none, rfl⟩ | exact ⟨_, rfl⟩) ?_
    refine kj_acmp_eq X (by first | exact Eq.refl (va_rf (some _)) | exact Eq.refl (va_rf none) | exact Eq.refl (va_rf _)) (by first | exact Eq.refl (va_rf (some _)) | exact Eq.refl (va_rf none) | exact Eq.refl (va_rf _)) 32 dX1_take_25 (by decide) (fun c_25 => ?_) (fun c_25 => ?_)
    · have e : sN S 9 d = p + 1 := hiff.mp c_25
      exact kj_vret X dX1_take_32 (by omega) (by omega) (fun H h => ⟨rfl, by unfold oTake; rw [if_pos (Or.inl e)]; exact kr_Hx.of h kr_gsm.rf hg⟩)
    have e : ¬ sN S 9 d = p + 1 := fun z => c_25 (hiff.mpr z)
    refine kj_iload_n X dX1_take_28 rfl rfl ?_
    refine kj_if_eq X 33 dX1_take_29 (by decide) (fun c_29 => ?_) (fun c_29 => ?_)
    rotate_left
    · have e3 : nHeld S p = 3 := by
        by_cases h3 : nHeld S p = 3
        · exact h3
        · rw [decide_eq_false h3] at c_29
          exact absurd rfl c_29
      exact kj_vret X dX1_take_32 (by omega) (by omega) (fun H h => ⟨rfl, by unfold oTake; rw [if_pos (Or.inr e3)]; exact kr_Hx.of h kr_gsm.rf hg⟩)
    have e3 : ¬ nHeld S p = 3 := fun h3 => by
      rw [decide_eq_true h3] at c_29
      exact absurd c_29 (by decide)
    have eo : oTake S p d = if sN S 9 d = 0 then uN S 9 d (p + 1) else uN (uL S 3 d (sL S 3 d ++ [p])) 8 p 1 := by
      unfold oTake
      rw [if_neg (fun z => z.elim e e3)]
    rw [eo]
    cases hh : sN S 9 d with
    | zero =>
      have k11 : kr_cells G g S Z (11, d) = kr_o 2 [.ref (gA g (12, d)), va_rf none] := by rw [kc_11 hd6, hh]
      refine kj_aload_n X dX1_take_33 rfl rfl (by first | exact ⟨some _, rfl⟩ | exact ⟨none, rfl⟩ | exact ⟨_, rfl⟩) ?_
      refine kj_getN X kc_X2 1 (by decide) q138 rfl dX1_take_34 (fun H h => h.own (k11)) rfl ?_
      refine kj_ifnonnull X (by first | exact Eq.refl (va_rf (some _)) | exact Eq.refl (va_rf none) | exact Eq.refl (va_rf _)) 48 dX1_take_37 (by decide) (fun a_37 c_37 => ?_) (fun c_37 => ?_)
      · cases c_37
      · rw [if_pos rfl]
        refine kj_aload_n X dX1_take_40 rfl rfl (by first | exact ⟨some _, rfl⟩ | exact ⟨none, rfl⟩ | exact ⟨_, rfl⟩) ?_
        refine kj_aload_n X dX1_take_41 rfl rfl (by first | exact ⟨some _, rfl⟩ | exact ⟨none, rfl⟩ | exact ⟨_, rfl⟩) ?_
        refine kj_putN X kc_X2 1 (by decide) q138 rfl rfl dX1_take_42 (by first | rfl | exact kr_nar _ _ | exact kr_narb _) (by first | rfl | exact kr_fitr _ _ | exact kr_fitb _) (Nat.le_of_ble_eq_true rfl) (fun H h => h.own (kc_11 hd6)) (fun H H1 h a u => h.upd (kc_11 hd6) (ku_hold (v := p + 1) hd6) a u) ?_
        refine kj_goto X 64 dX1_take_45 (by decide) ?_
        exact kj_vret X dX1_take_64 (by omega) (by omega) (fun H h => ⟨rfl, kr_Hx.of h kr_gsm.rf hg⟩)
    | succ j =>
      have k11 : kr_cells G g S Z (11, d) = kr_o 2 [.ref (gA g (12, d)), va_rf (some (gA g (7, j)))] := by rw [kc_11 hd6, hh]
      refine kj_aload_n X dX1_take_33 rfl rfl (by first | exact ⟨some _, rfl⟩ | exact ⟨none, rfl⟩ | exact ⟨_, rfl⟩) ?_
      refine kj_getN X kc_X2 1 (by decide) q138 rfl dX1_take_34 (fun H h => h.own (k11)) rfl ?_
      refine kj_ifnonnull X (by first | exact Eq.refl (va_rf (some _)) | exact Eq.refl (va_rf none) | exact Eq.refl (va_rf _)) 48 dX1_take_37 (by decide) (fun a_37 c_37 => ?_) (fun c_37 => ?_)
      · rw [if_neg (by omega)]
        have hob : kr_obj (gA g) (kr_cells G g S Z) (gA g (7, p)) := ⟨(7, p), 5, _, kc_7 hp, rfl, (by show (7 : Nat) ≠ 40; decide), by decide⟩
        have hc6 : gC g (12, d) ≤ 600 := by rcases hg.2.1 (12, d) with h | h <;> omega
        obtain ⟨g1, g2, g3⟩ : kr_gc ((sL S 3 d).map (fun i => gA g (7, i)), gM g (12, d), gC g (12, d)) ≤ 1 ∧ kr_gs ((sL S 3 d).map (fun i => gA g (7, i)), gM g (12, d), gC g (12, d)) ≤ 10 ∧ (10 ≤ kr_nc ((sL S 3 d).map (fun i => gA g (7, i)), gM g (12, d), gC g (12, d)) ∧ kr_nc ((sL S 3 d).map (fun i => gA g (7, i)), gM g (12, d), gC g (12, d)) ≤ 600) := by
          rcases kr_short (z := ((sL S 3 d).map (fun i => gA g (7, i)), gM g (12, d), gC g (12, d))) (by rw [List.length_map]; exact hl) (hg.2.1 _) with h | h
          · exact h
          · exact absurd hcap.1 (Nat.not_le.mpr h)
        refine kj_aload_n X dX1_take_48 rfl rfl (by first | exact ⟨some _, rfl⟩ | exact ⟨none, rfl⟩ | exact ⟨_, rfl⟩) ?_
        refine kj_getN X kc_X2 0 (by decide) q135 rfl dX1_take_49 (fun H h => h.own (k11)) rfl ?_
        refine kj_aload_n X dX1_take_52 rfl rfl (by first | exact ⟨some _, rfl⟩ | exact ⟨none, rfl⟩ | exact ⟨_, rfl⟩) ?_
        refine kj_callF X 1 (ct_J2_add X.F hg.1 (kc_12 hd6) hob hc6) q145 q149 q151 q46 q153 q147 q146 q152 q150 q148 ⟨by decide, by decide, by decide +kernel⟩ dX1_take_53 rfl rfl (by first | exact Nat.le_of_ble_eq_true rfl | simp [kr_cat, Value.category]) ⟨Nat.le_of_ble_eq_true rfl, Nat.le_of_ble_eq_true rfl⟩ ⟨by dsimp only; omega, by dsimp only; omega⟩ kc_J2.1 (fun H h => h.list (kc_12 hd6)) (fun E => kjx_no) (fun v_53 => ?_)
        refine kj_and (fun e_53 => ?_)
        subst e_53
        refine kj_P (P' := kr_S G (gA g) (kr_cells G (gL g (12, d) (gM g (12, d) + 1) (kr_nc ((sL S 3 d).map (fun i => gA g (7, i)), gM g (12, d), gC g (12, d)))) (uL S 3 d (sL S 3 d ++ [p])) Z)) (fun H h => ?_) ?_
        · rw [← kl_12 hd6, List.map_append]
          exact h
        refine kj_pop X dX1_take_58 (by first | rfl | exact kr_cat _) ?_
        refine kj_aload_n X dX1_take_59 rfl rfl (by first | exact ⟨some _, rfl⟩ | exact ⟨none, rfl⟩ | exact ⟨_, rfl⟩) ?_
        refine kj_iconst (v := 1) X dX1_take_60 (by decide) ?_
        refine kj_putN X kc_X16 5 (by decide) q1151 rfl rfl dX1_take_61 (by first | rfl | exact kr_nar _ _ | exact kr_narb _) (by first | rfl | exact kr_fitr _ _ | exact kr_fitb _) (Nat.le_of_ble_eq_true rfl) (fun H h => h.own (kc_7 (k := p) hp)) (fun H H1 h a u => h.upd (kc_7 (k := p) hp) (ku_qd (S := uL S 3 d (sL S 3 d ++ [p])) (k := p) (v := 1) hp) a u) ?_
        exact kj_vret X dX1_take_64 (by omega) (by omega) (fun H h => ⟨rfl, kr_Hx.of h (kr_gsm_gL (r := (12, d))) (kr_gok_gL hg (Or.inr g3))⟩)
      · cases c_37
  refine kj_iconst (v := 3) X dX1_take_10 (by decide) ?_
  refine kj_icmp_ne X 18 dX1_take_11 (by decide) (fun c_11 => ?_) (fun c_11 => ?_)
  · have e3 : ¬ nHeld S p = 3 := fun h3 => c_11 (by
      have : (List.range (sN S 14 0)).countP (fHold S p) = 3 := h3
      rw [this]
      rfl)
    rw [decide_eq_false e3] at back
    refine kj_iconst (v := 0) X dX1_take_18 (by decide) ?_
    exact back
  · have e3 : nHeld S p = 3 := (nI_eq (a := nHeld S p) (b := 3) (by omega) (by omega)).mp c_11
    rw [decide_eq_true e3] at back
    refine kj_iconst (v := 1) X dX1_take_14 (by decide) ?_
    refine kj_goto X 19 dX1_take_15 (by decide) ?_
    exact back
end
