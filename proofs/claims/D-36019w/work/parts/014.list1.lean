/-! java.util.ArrayList, first part: size, isEmpty, get, set's and index checks' contracts -/
set_option maxRecDepth 100000
def kr_b (b : Bool) : Int32 := if b then 1 else 0
theorem kr_nar (C : String) (r : Option Nat) : narrow (.object C) (va_rf r) = va_rf r := by cases r <;> rfl
theorem kr_fitr (C : String) (r : Option Nat) : fits (.object C) (va_rf r) = true := by cases r <;> rfl
theorem kr_narb (b : Bool) : narrow .boolean (.int (kr_b b)) = .int (kr_b b) := by cases b <;> decide
theorem kr_fitb (b : Bool) : fits .boolean (.int (kr_b b)) = true := by cases b <;> decide
section
variable {G : kr_G} {l : Launch} {ad bk : kr_Ro → Nat} {σ : kr_Ro → Option kr_AE} {i : kr_Ro} {z : List Nat × Int32 × Nat}
theorem kr_SB.list {H : Heap} (h : kr_SB G ad bk σ H) (hi : σ i = some (.inr z)) : ∃ fs, va_at (kg_D G) kr_cl (ad i, .inr (17, fs)) H := ⟨_, (h.1.own (i := .inl i) (kr_exp_l hi)).1⟩
theorem kr_SB.lo {H : Heap} (h : kr_SB G ad bk σ H) (hi : σ i = some (.inr z)) : kr_own G (ad i) (.inr (17, [.int z.2.1, .ref (if z.2.2 = 0 then kg_e0 G else bk i), .int (nI z.1.length)])) H := h.1.own (i := .inl i) (kr_exp_l hi)
theorem kr_SB.la {H : Heap} (h : kr_SB G ad bk σ H) (hi : σ i = some (.inr z)) (h0 : z.2.2 ≠ 0) : kr_own G (bk i) (.inl (kg_A G 6, z.2.2, .inr (.inr (.inr (.inr (fun j => z.1[j]?)))))) H := h.1.own (i := .inr i) (kr_exp_a hi h0)
theorem kr_SB.S {H : Heap} (h : kr_SB G ad bk σ H) (he : kr_elem ad σ) : kr_S G ad σ H := ⟨he, bk, h⟩
theorem ct_J26_equals (hF : kr_F G l) {P : Heap → Prop} (a b : Nat) : kr_T G l yJ26_equals (ws_ yJ26_equals cJ26_equals 2 (Option.some Jvm.ClassFile.FieldType.boolean)) 1 20 [.ref a, .ref b] P 0 0 (fun v H => v = some (.int (kr_b (decide (a = b)))) ∧ P H) kr_no := by
  refine kr_T.of (by decide +kernel) hF (by simp [Value.category]) (Nat.le_of_ble_eq_true rfl) (fun x hx X => ?_)
  refine kj_aload_n X dJ26_equals_0 rfl rfl (by first | exact ⟨some _, rfl⟩ | exact ⟨none, rfl⟩ | exact ⟨_, rfl⟩) ?_
  refine kj_aload_n X dJ26_equals_1 rfl rfl (by first | exact ⟨some _, rfl⟩ | exact ⟨none, rfl⟩ | exact ⟨_, rfl⟩) ?_
  refine kj_acmp_ne X (by first | exact Eq.refl (va_rf (some _)) | exact Eq.refl (va_rf none) | exact Eq.refl (va_rf _)) (by first | exact Eq.refl (va_rf (some _)) | exact Eq.refl (va_rf none) | exact Eq.refl (va_rf _)) 9 dJ26_equals_2 (by decide) (fun c_2 => ?_) (fun c_2 => ?_)
  · have e : ¬ a = b := fun z => c_2 (by rw [z])
    refine kj_iconst (v := 0) X dJ26_equals_9 (by decide) ?_
    exact kj_zret X rfl dJ26_equals_10 (by omega) (by omega) (fun H h => ⟨by simp [kr_b, e], h⟩)
  · have e : a = b := Option.some.inj c_2
    refine kj_iconst (v := 1) X dJ26_equals_5 (by decide) ?_
    refine kj_goto X 10 dJ26_equals_6 (by decide) ?_
    exact kj_zret X rfl dJ26_equals_10 (by omega) (by omega) (fun H h => ⟨by simp [kr_b, e], h⟩)
theorem ct_J14_checkIndex (hF : kr_F G l) {P : Heap → Prop} {k n : Nat} (hk : k < n) (hn : n < 2 ^ 31) : kr_T G l yJ14_checkIndex (ws_ yJ14_checkIndex cJ14_checkIndex 3 (Option.some Jvm.ClassFile.FieldType.int)) 1 20 [.int (nI k), .int (nI n), .null] P 0 0 (fun v H => v = some (.int (nI k)) ∧ P H) kr_no := by
  refine kr_T.of (by decide +kernel) hF (by simp [Value.category]) (Nat.le_of_ble_eq_true rfl) (fun x hx X => ?_)
  refine kj_iload_n X dJ14_checkIndex_0 rfl rfl ?_
  refine kj_if_lt X 9 dJ14_checkIndex_1 (by decide) (fun c_1 => ?_) (fun c_1 => ?_)
  · exact absurd c_1 (nI_pos (by omega))
  · refine kj_iload_n X dJ14_checkIndex_4 rfl rfl ?_
    refine kj_iload_n X dJ14_checkIndex_5 rfl rfl ?_
    refine kj_icmp_lt X 16 dJ14_checkIndex_6 (by decide) (fun c_6 => ?_) (fun c_6 => ?_)
    · refine kj_iload_n X dJ14_checkIndex_16 rfl rfl ?_
      exact kj_iret X dJ14_checkIndex_17 (by omega) (by omega) (fun H h => ⟨rfl, h⟩)
    · exact absurd (nI_lt hk hn) c_6
theorem ct_J13_checkIndex (hF : kr_F G l) {P : Heap → Prop} {k n : Nat} (hk : k < n) (hn : n < 2 ^ 31) : kr_T G l yJ13_checkIndex (ws_ yJ13_checkIndex cJ13_checkIndex 2 (Option.some Jvm.ClassFile.FieldType.int)) 2 60 [.int (nI k), .int (nI n)] P 0 0 (fun v H => v = some (.int (nI k)) ∧ P H) kr_no := by
  refine kr_T.of (by decide +kernel) hF (by simp [Value.category]) (Nat.le_of_ble_eq_true rfl) (fun x hx X => ?_)
  refine kj_iload_n X dJ13_checkIndex_0 rfl rfl ?_
  refine kj_iload_n X dJ13_checkIndex_1 rfl rfl ?_
  refine kj_null X dJ13_checkIndex_2 ?_
  refine kj_callS X 3 (ct_J14_checkIndex X.F hk hn) (lw_S q598 q599 q62 q600) ⟨by decide, by decide, by decide +kernel⟩ dJ13_checkIndex_3 rfl rfl (by first | exact Nat.le_of_ble_eq_true rfl | simp [kr_cat, Value.category]) ⟨Nat.le_of_ble_eq_true rfl, Nat.le_of_ble_eq_true rfl⟩ ⟨by dsimp only; omega, by dsimp only; omega⟩ (fun E => kjx_no) (fun v_3 => ?_)
  refine kj_and (fun e => ?_)
  subst e
  exact kj_iret X dJ13_checkIndex_6 (by omega) (by omega) (fun H h => ⟨rfl, h⟩)
theorem ct_J2_size (hF : kr_F G l) (hi : σ i = some (.inr z)) : kr_T G l yJ2_size (ws_ yJ2_size cJ2_size 1 (Option.some Jvm.ClassFile.FieldType.int)) 1 20 [.ref (ad i)] (kr_S G ad σ) 0 0 (fun v H => v = some (.int (nI z.1.length)) ∧ kr_S G ad σ H) kr_no := by
  refine kr_T.of (by decide +kernel) hF (by simp [Value.category]) (Nat.le_of_ble_eq_true rfl) (fun x hx X => ?_)
  refine kj_pure (fun H h => h.1) (fun he => ?_)
  refine kj_ex (P' := fun bk => kr_SB G ad bk σ) (fun H h => h.2) (fun bk => ?_)
  refine kj_aload_n X dJ2_size_0 rfl rfl (by first | exact ⟨some _, rfl⟩ | exact ⟨none, rfl⟩ | exact ⟨_, rfl⟩) ?_
  refine kj_get X kc_J2 2 (by decide) q114 (Or.inl rfl) dJ2_size_1 (fun H h => h.lo hi) rfl ?_
  exact kj_iret X dJ2_size_4 (by omega) (by omega) (fun H h => ⟨rfl, h.S he⟩)
theorem ct_J2_isEmpty (hF : kr_F G l) (hi : σ i = some (.inr z)) (hn : z.1.length < 2 ^ 31) : kr_T G l yJ2_isEmpty (ws_ yJ2_isEmpty cJ2_isEmpty 1 (Option.some Jvm.ClassFile.FieldType.boolean)) 1 20 [.ref (ad i)] (kr_S G ad σ) 0 0 (fun v H => v = some (.int (kr_b (decide (z.1 = [])))) ∧ kr_S G ad σ H) kr_no := by
  refine kr_T.of (by decide +kernel) hF (by simp [Value.category]) (Nat.le_of_ble_eq_true rfl) (fun x hx X => ?_)
  refine kj_pure (fun H h => h.1) (fun he => ?_)
  refine kj_ex (P' := fun bk => kr_SB G ad bk σ) (fun H h => h.2) (fun bk => ?_)
  refine kj_aload_n X dJ2_isEmpty_0 rfl rfl (by first | exact ⟨some _, rfl⟩ | exact ⟨none, rfl⟩ | exact ⟨_, rfl⟩) ?_
  refine kj_get X kc_J2 2 (by decide) q114 (Or.inl rfl) dJ2_isEmpty_1 (fun H h => h.lo hi) rfl ?_
  refine kj_if_ne X 11 dJ2_isEmpty_4 (by decide) (fun c_4 => ?_) (fun c_4 => ?_)
  · have e : ¬ z.1 = [] := fun q => c_4 (by rw [q]; rfl)
    refine kj_iconst (v := 0) X dJ2_isEmpty_11 (by decide) ?_
    exact kj_zret X rfl dJ2_isEmpty_12 (by omega) (by omega) (fun H h => ⟨by simp [kr_b, e], h.S he⟩)
  · have e : z.1 = [] := by
      cases hz : z.1 with
      | nil => rfl
      | cons a as =>
        rw [hz] at c_4 hn
        exact absurd c_4 (nI_ne0 (by simp) hn)
    refine kj_iconst (v := 1) X dJ2_isEmpty_7 (by decide) ?_
    refine kj_goto X 12 dJ2_isEmpty_8 (by decide) ?_
    exact kj_zret X rfl dJ2_isEmpty_12 (by omega) (by omega) (fun H h => ⟨by simp [kr_b, e], h.S he⟩)
/-- the row's places -/
theorem ct_J2_elementData (hF : kr_F G l) (hi : σ i = some (.inr z)) {k a : Nat} (hk : z.1[k]? = some a) (hn : z.2.2 < 2 ^ 31) (h0 : z.1.length ≤ z.2.2) : kr_T G l yJ2_elementData (ws_ yJ2_elementData cJ2_elementData 2 (Option.some (Jvm.ClassFile.FieldType.object "java/lang/Object"))) 1 20 [.ref (ad i), .int (nI k)] (kr_SB G ad bk σ) 0 0 (fun v H => v = some (.ref a) ∧ kr_SB G ad bk σ H) kr_no := by
  have hlt : k < z.1.length := (List.getElem?_eq_some_iff.mp hk).1
  have hz : z.2.2 ≠ 0 := by omega
  refine kr_T.of (by decide +kernel) hF (by simp [Value.category]) (Nat.le_of_ble_eq_true rfl) (fun x hx X => ?_)
  refine kj_aload_n X dJ2_elementData_0 rfl rfl (by first | exact ⟨some _, rfl⟩ | exact ⟨none, rfl⟩ | exact ⟨_, rfl⟩) ?_
  refine kj_get X kc_J2 1 (by decide) q111 (Or.inl rfl) dJ2_elementData_1 (fun H h => h.lo hi) rfl ?_
  rw [if_neg hz]
  refine kj_iload_n X dJ2_elementData_4 rfl rfl ?_
  refine kj_aald X 6 rfl dJ2_elementData_5 (fun H h => h.la hi hz) (vp_in_nI (by omega) hn) ?_
  rw [nI_clamp (by omega : k < 2 ^ 31), hk]
  exact kj_aret X (Or.inl ⟨_, rfl⟩) (by first | exact ⟨some _, rfl⟩ | exact ⟨none, rfl⟩ | exact ⟨_, rfl⟩) dJ2_elementData_6 (by omega) (by omega) (fun H h => ⟨rfl, h⟩)
theorem ct_J2_get (hF : kr_F G l) (hi : σ i = some (.inr z)) {k a : Nat} (hk : z.1[k]? = some a) : kr_T G l yJ2_get (ws_ yJ2_get cJ2_get 2 (Option.some (Jvm.ClassFile.FieldType.object "java/lang/Object"))) 3 100 [.ref (ad i), .int (nI k)] (kr_S G ad σ) 0 0 (fun v H => v = some (.ref a) ∧ kr_S G ad σ H) kr_no := by
  have hlt : k < z.1.length := (List.getElem?_eq_some_iff.mp hk).1
  refine kr_T.of (by decide +kernel) hF (by simp [Value.category]) (Nat.le_of_ble_eq_true rfl) (fun x hx X => ?_)
  refine kj_pure (fun H h => h.1) (fun he => ?_)
  refine kj_ex (P' := fun bk => kr_SB G ad bk σ) (fun H h => h.2) (fun bk => ?_)
  refine kj_pure (fun H h => h.2 i z hi) (fun hc => ?_)
  refine kj_iload_n X dJ2_get_0 rfl rfl ?_
  refine kj_aload_n X dJ2_get_1 rfl rfl (by first | exact ⟨some _, rfl⟩ | exact ⟨none, rfl⟩ | exact ⟨_, rfl⟩) ?_
  refine kj_get X kc_J2 2 (by decide) q114 (Or.inl rfl) dJ2_get_2 (fun H h => h.lo hi) rfl ?_
  refine kj_callS X 2 (ct_J13_checkIndex X.F hlt (by omega)) (lw_S q595 q596 q61 q597) ⟨by decide, by decide, by decide +kernel⟩ dJ2_get_5 rfl rfl (by first | exact Nat.le_of_ble_eq_true rfl | simp [kr_cat, Value.category]) ⟨Nat.le_of_ble_eq_true rfl, Nat.le_of_ble_eq_true rfl⟩ ⟨by dsimp only; omega, by dsimp only; omega⟩ (fun E => kjx_no) (fun v_5 => ?_)
  refine kj_and (fun e => ?_)
  subst e
  refine kj_pop X dJ2_get_8 (by first | rfl | exact kr_cat _) ?_
  refine kj_aload_n X dJ2_get_9 rfl rfl (by first | exact ⟨some _, rfl⟩ | exact ⟨none, rfl⟩ | exact ⟨_, rfl⟩) ?_
  refine kj_iload_n X dJ2_get_10 rfl rfl ?_
  refine kj_callV X 1 (ct_J2_elementData X.F hi hk (by omega) hc.1) (lw_V q601 q602 q603 q46 q604) ⟨rfl, by decide, by decide, by decide +kernel⟩ dJ2_get_11 rfl rfl (by first | exact Nat.le_of_ble_eq_true rfl | simp [kr_cat, Value.category]) ⟨Nat.le_of_ble_eq_true rfl, Nat.le_of_ble_eq_true rfl⟩ ⟨by dsimp only; omega, by dsimp only; omega⟩ kc_J2.1 (fun H h => h.list hi) (fun E => kjx_no) (fun v_11 => ?_)
  refine kj_and (fun e => ?_)
  subst e
  exact kj_aret X (Or.inl ⟨_, rfl⟩) (by first | exact ⟨some _, rfl⟩ | exact ⟨none, rfl⟩ | exact ⟨_, rfl⟩) dJ2_get_14 (by omega) (by omega) (fun H h => ⟨rfl, h.S he⟩)
end
