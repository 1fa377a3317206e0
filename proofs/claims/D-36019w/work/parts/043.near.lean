/-! NEAREST -/
set_option maxRecDepth 100000
def near1 (S : kr_St) (fr a : Nat) : Nat := if a ≤ fr ∧ fr - a < sN S 1 0 ∧ sN S 7 (fr - a) = 0 then fr - a + 1 else if fr + a < sN S 1 0 ∧ sN S 7 (fr + a) = 0 then fr + a + 1 else 0
def nearG (S : kr_St) (fr : Nat) : Nat → Nat → Nat
  | 0, _ => 0
  | n + 1, a => if near1 S fr a ≠ 0 then near1 S fr a else nearG S fr n (a + 1)
def oNear (S : kr_St) (fr : Nat) : Nat := nearG S fr (sN S 1 0) 0
theorem kr_left {fr a t : Nat} (h1 : fr < 2 ^ 30) (h2 : a < 2 ^ 30) (h3 : t < 2 ^ 30) : nI fr + -1 * nI a = nI t ↔ fr = t + a := by
  have e : nI fr + -1 * nI a = nI fr - nI a := by rw [Int32.neg_mul, Int32.one_mul, ← Int32.sub_eq_add_neg]
  rw [e]
  constructor
  · intro h
    have h4 : nI fr = nI t + nI a := by rw [← h, Int32.sub_add_cancel]
    rw [nI_add] at h4
    exact (nI_eq (by omega) (by omega)).mp h4
  · rintro rfl
    rw [← nI_add, Int32.add_sub_cancel]
theorem kr_right {fr a : Nat} : nI fr + 1 * nI a = nI (fr + a) := by rw [Int32.one_mul, nI_add]
section
variable {G : kr_G} {l : Launch} {g g' : kr_Gh} {S S' : kr_St} {Z : kr_Ro → Option kr_AE}
theorem ct_X1_nearest (hF : kr_F G l) {fr : Nat} (hK : sN S 1 0 ≤ 6) (hf : fr < 6) (hb : ∀ k, k < sN S 1 0 → sN S 7 k < 2) : kr_T G l yX1_nearest (ws_ yX1_nearest cX1_nearest 5 (Option.some (Jvm.ClassFile.FieldType.object "KioskReel$Kiosk"))) 4 200 [.ref (gA g (0, 0)), .int (nI fr)] (kr_S G (gA g) (kr_cells G g S Z)) 0 0 (fun v H => v = some (va_rf (kr_op (fun i => gA g (5, i)) (oNear S fr))) ∧ kr_S G (gA g) (kr_cells G g S Z) H) kr_no := by
  refine kr_T.of (by decide +kernel) hF (by simp [Value.category]) (Nat.le_of_ble_eq_true rfl) (fun x hx X => ?_)
  refine kj_iconst (v := 0) X dX1_nearest_0 (by decide) ?_
  refine kj_istore_n (lv' := [_, _, _, _, _]) X dX1_nearest_1 rfl (by decide) (by intro w h _; cases h <;> first | rfl | exact kr_cat _) rfl ?_
  have hlen : ((List.range (sN S 1 0)).map fun i => gA g (5, i)).length = sN S 1 0 := by rw [List.length_map, List.length_range]
  have blk : ∀ (sd : Int32) (a : Nat) (d4 : Option Value), (∀ t, nI fr + sd * nI a = nI t → t < sN S 1 0 → sN S 7 t = 0 → oNear S fr = t + 1) →
      ((¬ ∃ t, nI fr + sd * nI a = nI t ∧ t < sN S 1 0 ∧ sN S 7 t = 0) → kr_J G x 5 (kr_Q G x 0 0 (fun v H => v = some (va_rf (kr_op (fun i => gA g (5, i)) (oNear S fr))) ∧ kr_S G (gA g) (kr_cells G g S Z) H) kr_no) (kr_S G (gA g) (kr_cells G g S Z)) 0 0 84 [some (.ref (gA g (0, 0))), some (.int (nI fr)), some (.int (nI a)), some (.int sd), some (.int (nI fr + sd * nI a))] []) →
      kr_J G x 5 (kr_Q G x 0 0 (fun v H => v = some (va_rf (kr_op (fun i => gA g (5, i)) (oNear S fr))) ∧ kr_S G (gA g) (kr_cells G g S Z) H) kr_no) (kr_S G (gA g) (kr_cells G g S Z)) 0 0 22 [some (.ref (gA g (0, 0))), some (.int (nI fr)), some (.int (nI a)), some (.int sd), d4] [] := by
    intro sd a d4 h1 h2
    refine kj_iload_n X dX1_nearest_22 rfl rfl ?_
    refine kj_iload_n X dX1_nearest_23 rfl rfl ?_
    refine kj_iload_n X dX1_nearest_24 rfl rfl ?_
    refine kj_imul X dX1_nearest_25 ?_
    refine kj_iadd X dX1_nearest_26 ?_
    refine kj_istore (lv' := [_, _, _, _, _]) X dX1_nearest_27 (by decide) (by intro w h _; cases h <;> first | rfl | exact kr_cat _) rfl ?_
    refine kj_iload X dX1_nearest_29 rfl ?_
    refine kj_iconst (v := 0) X dX1_nearest_31 (by decide) ?_
    refine kj_aload_n X dX1_nearest_32 rfl rfl (by first | exact ⟨some _, rfl⟩ | exact ⟨none, rfl⟩ | exact ⟨_, rfl⟩) ?_
    refine kj_get X kc_X1 1 (by decide) q227 (Or.inl rfl) dX1_nearest_33 (fun H h => h.own (kc_kio)) rfl ?_
    refine kj_callF X 0 (ct_J2_size X.F kc_l1) q478 q481 q483 q46 q485 q480 q479 q484 q482 q148 ⟨by decide, by decide, by decide +kernel⟩ dX1_nearest_36 rfl rfl (by first | exact Nat.le_of_ble_eq_true rfl | simp [kr_cat, Value.category]) ⟨Nat.le_of_ble_eq_true rfl, Nat.le_of_ble_eq_true rfl⟩ ⟨by dsimp only; omega, by dsimp only; omega⟩ kc_J2.1 (fun H h => h.list (kc_l1)) (fun E => kjx_no) (fun v_36 => ?_)
    refine kj_and (fun e_36 => ?_)
    subst e_36
    rw [hlen]
    refine kj_iconst (v := 1) X dX1_nearest_41 (by decide) ?_
    refine kj_isub X dX1_nearest_42 ?_
    refine kj_callS X 3 (ct_X1_isIn X.F (nI fr + sd * nI a) 0 (nI (sN S 1 0) - 1)) (lw_S q608 q609 q43 q610) ⟨by decide, by decide, by decide +kernel⟩ dX1_nearest_43 rfl rfl (by first | exact Nat.le_of_ble_eq_true rfl | simp [kr_cat, Value.category]) ⟨Nat.le_of_ble_eq_true rfl, Nat.le_of_ble_eq_true rfl⟩ ⟨by dsimp only; omega, by dsimp only; omega⟩ (fun E => kjx_no) (fun v_43 => ?_)
    refine kj_and (fun e_43 => ?_)
    subst e_43
    by_cases hin : 0 ≤ nI fr + sd * nI a ∧ nI fr + sd * nI a ≤ nI (sN S 1 0) - 1
    · obtain ⟨t, ht, htn⟩ := (kr_in (by omega)).mp hin
      rw [decide_eq_true hin]
      rw [ht] at h1 h2 ⊢
      refine kj_if_eq X 84 dX1_nearest_46 (by decide) (fun c_46 => ?_) (fun c_46 => ?_)
      · exact absurd c_46 (by decide)
      have hbt := hb t htn
      refine kj_aload_n X dX1_nearest_49 rfl rfl (by first | exact ⟨some _, rfl⟩ | exact ⟨none, rfl⟩ | exact ⟨_, rfl⟩) ?_
      refine kj_get X kc_X1 1 (by decide) q227 (Or.inl rfl) dX1_nearest_50 (fun H h => h.own (kc_kio)) rfl ?_
      refine kj_iload X dX1_nearest_53 rfl ?_
      refine kj_callF X 1 (ct_J2_get X.F kc_l1 (k := t) (a := gA g (5, t)) (by rw [List.getElem?_map, List.getElem?_range htn]; rfl)) q587 q590 q592 q46 q594 q589 q588 q593 q591 q148 ⟨by decide, by decide, by decide +kernel⟩ dX1_nearest_55 rfl rfl (by first | exact Nat.le_of_ble_eq_true rfl | simp [kr_cat, Value.category]) ⟨Nat.le_of_ble_eq_true rfl, Nat.le_of_ble_eq_true rfl⟩ ⟨by dsimp only; omega, by dsimp only; omega⟩ kc_J2.1 (fun H h => h.list (kc_l1)) (fun E => kjx_no) (fun v_55 => ?_)
      refine kj_and (fun e_55 => ?_)
      subst e_55
      refine kj_ccastR X kc_X15.1 q404 dX1_nearest_60 (fun H h => h.at (kc_5 htn)) ?_
      refine kj_getN X kc_X15 4 (by decide) q1073 rfl dX1_nearest_63 (fun H h => h.own (kc_5 htn)) rfl ?_
      refine kj_if_ne X 84 dX1_nearest_66 (by decide) (fun c_66 => ?_) (fun c_66 => ?_)
      · have e : ¬ sN S 7 t = 0 := fun z => c_66 (by rw [z]; rfl)
        refine h2 ?_
        rintro ⟨t', e1, e2, e3⟩
        have : t = t' := (nI_eq (by omega) (by omega)).mp e1
        rw [← this] at e3
        exact e e3
      · have e : sN S 7 t = 0 := (nI_eq (b := 0) (by omega) (by omega)).mp c_66
        rw [h1 t rfl htn e]
        refine kj_aload_n X dX1_nearest_69 rfl rfl (by first | exact ⟨some _, rfl⟩ | exact ⟨none, rfl⟩ | exact ⟨_, rfl⟩) ?_
        refine kj_get X kc_X1 1 (by decide) q227 (Or.inl rfl) dX1_nearest_70 (fun H h => h.own (kc_kio)) rfl ?_
        refine kj_iload X dX1_nearest_73 rfl ?_
        refine kj_callF X 1 (ct_J2_get X.F kc_l1 (k := t) (a := gA g (5, t)) (by rw [List.getElem?_map, List.getElem?_range htn]; rfl)) q587 q590 q592 q46 q594 q589 q588 q593 q591 q148 ⟨by decide, by decide, by decide +kernel⟩ dX1_nearest_75 rfl rfl (by first | exact Nat.le_of_ble_eq_true rfl | simp [kr_cat, Value.category]) ⟨Nat.le_of_ble_eq_true rfl, Nat.le_of_ble_eq_true rfl⟩ ⟨by dsimp only; omega, by dsimp only; omega⟩ kc_J2.1 (fun H h => h.list (kc_l1)) (fun E => kjx_no) (fun v_75 => ?_)
        refine kj_and (fun e_75 => ?_)
        subst e_75
        refine kj_ccastR X kc_X15.1 q404 dX1_nearest_80 (fun H h => h.at (kc_5 htn)) ?_
        exact kj_aret X (Or.inl ⟨_, rfl⟩) (by first | exact ⟨some _, rfl⟩ | exact ⟨none, rfl⟩ | exact ⟨_, rfl⟩) dX1_nearest_83 (by omega) (by omega) (fun H h => ⟨rfl, h⟩)
    · rw [decide_eq_false hin]
      refine kj_if_eq X 84 dX1_nearest_46 (by decide) (fun c_46 => ?_) (fun c_46 => ?_)
      · refine h2 ?_
        rintro ⟨t, e1, e2, -⟩
        exact hin ((kr_in (by omega)).mpr ⟨t, e1, e2⟩)
      · exact absurd rfl c_46
  have loop : ∀ m a d3 d4, a + m = sN S 1 0 → oNear S fr = nearG S fr m a → kr_J G x 5 (kr_Q G x 0 0 (fun v H => v = some (va_rf (kr_op (fun i => gA g (5, i)) (oNear S fr))) ∧ kr_S G (gA g) (kr_cells G g S Z) H) kr_no) (kr_S G (gA g) (kr_cells G g S Z)) 0 0 2 [some (.ref (gA g (0, 0))), some (.int (nI fr)), some (.int (nI a)), d3, d4] [] := by
    intro m
    induction m with
    | zero =>
      intro a d3 d4 ha hinv
      refine kj_iload_n X dX1_nearest_2 rfl rfl ?_
      refine kj_aload_n X dX1_nearest_3 rfl rfl (by first | exact ⟨some _, rfl⟩ | exact ⟨none, rfl⟩ | exact ⟨_, rfl⟩) ?_
      refine kj_get X kc_X1 1 (by decide) q227 (Or.inl rfl) dX1_nearest_4 (fun H h => h.own (kc_kio)) rfl ?_
      refine kj_callF X 0 (ct_J2_size X.F kc_l1) q478 q481 q483 q46 q485 q480 q479 q484 q482 q148 ⟨by decide, by decide, by decide +kernel⟩ dX1_nearest_7 rfl rfl (by first | exact Nat.le_of_ble_eq_true rfl | simp [kr_cat, Value.category]) ⟨Nat.le_of_ble_eq_true rfl, Nat.le_of_ble_eq_true rfl⟩ ⟨by dsimp only; omega, by dsimp only; omega⟩ kc_J2.1 (fun H h => h.list (kc_l1)) (fun E => kjx_no) (fun v_7 => ?_)
      refine kj_and (fun e_7 => ?_)
      subst e_7
      rw [hlen]
      refine kj_icmp_ge X 96 dX1_nearest_12 (by decide) (fun c_12 => ?_) (fun c_12 => ?_)
      · rw [hinv]
        refine kj_null X dX1_nearest_96 ?_
        exact kj_aret X (Or.inl ⟨_, rfl⟩) (by first | exact ⟨some _, rfl⟩ | exact ⟨none, rfl⟩ | exact ⟨_, rfl⟩) dX1_nearest_97 (by omega) (by omega) (fun H h => ⟨rfl, h⟩)
      · exact absurd (nI_le (by omega) (by omega)) c_12
    | succ m ih =>
      intro a d3 d4 ha hinv
      have hlt : a < sN S 1 0 := by omega
      refine kj_iload_n X dX1_nearest_2 rfl rfl ?_
      refine kj_aload_n X dX1_nearest_3 rfl rfl (by first | exact ⟨some _, rfl⟩ | exact ⟨none, rfl⟩ | exact ⟨_, rfl⟩) ?_
      refine kj_get X kc_X1 1 (by decide) q227 (Or.inl rfl) dX1_nearest_4 (fun H h => h.own (kc_kio)) rfl ?_
      refine kj_callF X 0 (ct_J2_size X.F kc_l1) q478 q481 q483 q46 q485 q480 q479 q484 q482 q148 ⟨by decide, by decide, by decide +kernel⟩ dX1_nearest_7 rfl rfl (by first | exact Nat.le_of_ble_eq_true rfl | simp [kr_cat, Value.category]) ⟨Nat.le_of_ble_eq_true rfl, Nat.le_of_ble_eq_true rfl⟩ ⟨by dsimp only; omega, by dsimp only; omega⟩ kc_J2.1 (fun H h => h.list (kc_l1)) (fun E => kjx_no) (fun v_7 => ?_)
      refine kj_and (fun e_7 => ?_)
      subst e_7
      rw [hlen]
      refine kj_icmp_ge X 96 dX1_nearest_12 (by decide) (fun c_12 => ?_) (fun c_12 => ?_)
      · exact absurd c_12 (nI_ge hlt (by omega))
      refine kj_iconst (v := -1) X dX1_nearest_15 (by decide) ?_
      refine kj_istore_n (lv' := [_, _, _, _, _]) X dX1_nearest_16 rfl (by decide) (by intro w h _; cases h <;> first | rfl | exact kr_cat _) rfl ?_
      refine kj_iload_n X dX1_nearest_17 rfl rfl ?_
      refine kj_iconst (v := 2) X dX1_nearest_18 (by decide) ?_
      refine kj_icmp_ge X 90 dX1_nearest_19 (by decide) (fun c_19 => ?_) (fun c_19 => ?_)
      · exact absurd c_19 (by decide)
      have hstep : nearG S fr (m + 1) a = if near1 S fr a ≠ 0 then near1 S fr a else nearG S fr m (a + 1) := rfl
      refine blk (-1) a d4 (fun t e1 e2 e3 => ?_) (fun hno => ?_)
      · have e4 := (kr_left (by omega) (by omega) (by omega)).mp e1
        have e5 : near1 S fr a = t + 1 := by
          unfold near1
          have : fr - a = t := by omega
          rw [this, if_pos ⟨by omega, e2, e3⟩]
        rw [hinv, hstep, e5, if_pos (by omega)]
      have hno' : ¬ (a ≤ fr ∧ fr - a < sN S 1 0 ∧ sN S 7 (fr - a) = 0) := fun z => hno ⟨fr - a, (kr_left (by omega) (by omega) (by omega)).mpr (by omega), z.2.1, z.2.2⟩
      refine kj_iinc (lv' := [_, _, _, _, _]) (w := 1) X dX1_nearest_84 (by decide) rfl (by intro w h _; cases h <;> first | rfl | exact kr_cat _) (by decide) rfl ?_
      refine kj_goto X 17 dX1_nearest_87 (by decide) ?_
      refine kj_iload_n X dX1_nearest_17 rfl rfl ?_
      refine kj_iconst (v := 2) X dX1_nearest_18 (by decide) ?_
      refine kj_icmp_ge X 90 dX1_nearest_19 (by decide) (fun c_19 => ?_) (fun c_19 => ?_)
      · exact absurd c_19 (by decide)
      refine blk 1 a _ (fun t e1 e2 e3 => ?_) (fun hno2 => ?_)
      · rw [kr_right] at e1
        have e4 : fr + a = t := (nI_eq (by omega) (by omega)).mp e1
        subst e4
        have e5 : near1 S fr a = fr + a + 1 := by
          unfold near1
          rw [if_neg hno', if_pos ⟨e2, e3⟩]
        rw [hinv, hstep, e5, if_pos (by omega)]
      have hno2' : ¬ (fr + a < sN S 1 0 ∧ sN S 7 (fr + a) = 0) := fun z => hno2 ⟨fr + a, kr_right, z.1, z.2⟩
      have e6 : near1 S fr a = 0 := by
        unfold near1
        rw [if_neg hno', if_neg hno2']
      refine kj_iinc (lv' := [_, _, _, _, _]) (w := 3) X dX1_nearest_84 (by decide) rfl (by intro w h _; cases h <;> first | rfl | exact kr_cat _) (by decide) rfl ?_
      refine kj_goto X 17 dX1_nearest_87 (by decide) ?_
      refine kj_iload_n X dX1_nearest_17 rfl rfl ?_
      refine kj_iconst (v := 2) X dX1_nearest_18 (by decide) ?_
      refine kj_icmp_ge X 90 dX1_nearest_19 (by decide) (fun c_19 => ?_) (fun c_19 => ?_)
      rotate_left
      · exact absurd (by decide) c_19
      refine kj_iinc (lv' := [_, _, _, _, _]) (w := nI (a + 1)) X dX1_nearest_90 (by decide) rfl (by intro w h _; cases h <;> first | rfl | exact kr_cat _) (nI_1 a) rfl ?_
      refine kj_goto X 2 dX1_nearest_93 (by decide) ?_
      exact ih (a + 1) _ _ (by omega) (by rw [hinv, hstep, if_neg (by rw [e6]; decide)])
  exact loop (sN S 1 0) 0 none none (by omega) rfl
end
