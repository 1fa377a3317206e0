/-! copyOf of the row of a list that was never filled; toArray -/
set_option maxRecDepth 100000
theorem kf_x0 {G : kr_G} {l : Launch} (hF : kr_F G l) : ∃ cell : Cell, (kg_s G).heap[kg_e0 G]? = some cell ∧ cell.vm.isStatics = false ∧ (kg_s G).vm.findClass "[Ljava/lang/Object;" = some cell.cls := by
  obtain ⟨b, h1, h2⟩ := kf_given hF
  obtain ⟨a, c, cell, k, q1, q2, q3, q4, q5, q6, -⟩ := Cond.exactly_spec (h2 (.exactly (.static "java/util/ArrayList" "DEFAULTCAPACITY_EMPTY_ELEMENTDATA" "[Ljava/lang/Object;") "[Ljava/lang/Object;") (by decide +kernel))
  have e : kg_e0 G = a := kf_static q1
  rw [e]
  exact ⟨cell, q3, q5, by rw [q6]; exact q2⟩
section
variable {G : kr_G} {l : Launch} {ad bk : kr_Ro → Nat} {σ : kr_Ro → Option kr_AE} {i : kr_Ro} {z : List Nat × Int32 × Nat} {H H1 : Heap} {a : Nat}
theorem ct_J5_copyOf0_2 (hF : kr_F G l) (hT : kr_tmp ad) {mi : Nat} (hmi : ∀ s : State, (kg_s G).WarmedH s.vm → va_Mi "[Ljava/lang/Object;" mi s) : kr_T G l yJ5_copyOf_2 (ws_ yJ5_copyOf_2 cJ5_copyOf_2 4 (Option.some (Jvm.ClassFile.FieldType.array (Jvm.ClassFile.FieldType.object "java/lang/Object")))) 2 100 [.ref (kg_e0 G), .int 0, .ref mi] (kr_SB G ad bk σ) 1 0 (fun v H => ∃ q, (v = some (.ref q) ∧ σ (40, q) = none) ∧ kr_SB G ad bk (kr_up σ (40, q) (some (kr_row G 0 []))) H) kr_no := by
  refine kr_T.of (by decide +kernel) hF (by simp [Value.category]) (Nat.le_of_ble_eq_true rfl) (fun x hx X => ?_)
  have hMi := hmi _ X.warm
  refine kj_aload_n X dJ5_copyOf_2_0 rfl rfl (by first | exact ⟨some _, rfl⟩ | exact ⟨none, rfl⟩ | exact ⟨_, rfl⟩) ?_
  refine kj_ldcM X hMi q214 dJ5_copyOf_2_1 ?_
  refine kj_acmp_ne X (by first | exact Eq.refl (va_rf (some _)) | exact Eq.refl (va_rf none) | exact Eq.refl (va_rf _)) (by first | exact Eq.refl (va_rf (some _)) | exact Eq.refl (va_rf none) | exact Eq.refl (va_rf _)) 13 dJ5_copyOf_2_3 (by decide) (fun c_3 => ?_) (fun c_3 => ?_)
  · exact absurd rfl c_3
  · refine kj_iload_n X dJ5_copyOf_2_6 rfl rfl ?_
    refine kj_anew (Pn := fun q H => σ (40, q) = none ∧ kr_SB G ad bk (kr_up σ (40, q) (some (kr_row G 0 []))) H) (N := 0) X 6 rfl q216 q215 dJ5_copyOf_2_7 (by decide) (by decide) (by omega) (by dsimp only; omega) (by dsimp only; omega) (fun H H1 h ho a u => ⟨h.free (hT _).1, by
      have h9 := h.new (i := (40, H.size)) (e := .inl (.inl (kg_A G 6, 0, .inr (.inr (.inr (.inr (fun _ => none))))))) (hT _).1 a ho u
      rw [show (some (.inl (.inl (.inl (kg_A G 6, 0, .inr (.inr (.inr (.inr (fun _ => none)))))))) : Option kr_AE) = some (kr_row G 0 []) from congrArg (fun f => (some (.inl (.inl (.inl (kg_A G 6, 0, .inr (.inr (.inr (.inr f))))))) : Option kr_AE)) (funext fun j => (List.getElem?_nil (i := j)).symm)] at h9
      exact h9⟩) (fun q => ?_)
    refine kj_and (fun hq => ?_)
    refine kj_goto X 24 dJ5_copyOf_2_10 (by decide) ?_
    refine kj_astore_n (lv' := [_, _, _, _]) X dJ5_copyOf_2_24 rfl (by decide) (by intro w h _; cases h <;> first | rfl | exact kr_cat _) (by first | exact ⟨some _, rfl⟩ | exact ⟨none, rfl⟩ | exact ⟨_, rfl⟩) rfl ?_
    refine kj_aload_n X dJ5_copyOf_2_25 rfl rfl (by first | exact ⟨some _, rfl⟩ | exact ⟨none, rfl⟩ | exact ⟨_, rfl⟩) ?_
    refine kj_iconst (v := 0) X dJ5_copyOf_2_26 (by decide) ?_
    refine kj_aload_n X dJ5_copyOf_2_27 rfl rfl (by first | exact ⟨some _, rfl⟩ | exact ⟨none, rfl⟩ | exact ⟨_, rfl⟩) ?_
    refine kj_iconst (v := 0) X dJ5_copyOf_2_28 (by decide) ?_
    refine kj_aload_n X dJ5_copyOf_2_29 rfl rfl (by first | exact ⟨some _, rfl⟩ | exact ⟨none, rfl⟩ | exact ⟨_, rfl⟩) ?_
    refine kj_tlen X (kf_e0 X.F) dJ5_copyOf_2_30 ?_
    refine kj_iload_n X dJ5_copyOf_2_31 rfl rfl ?_
    refine kj_min X q217 dJ5_copyOf_2_32 (Nat.le_of_ble_eq_true rfl) (by simp [Value.category]) (by dsimp only; omega) (by dsimp only; omega) ?_
    rw [show (if (0 : Int32) < 0 then (0 : Int32) else 0) = 0 from rfl]
    refine kj_copy0 X 6 rfl (kf_e0 X.F) q220 dJ5_copyOf_2_35 (fun H h => by have := h.own (i := (40, q)) kr_up_s; rwa [(hT q).1] at this) (Nat.le_of_ble_eq_true rfl) (by simp [Value.category]; decide) ?_
    refine kj_aload_n X dJ5_copyOf_2_38 rfl rfl (by first | exact ⟨some _, rfl⟩ | exact ⟨none, rfl⟩ | exact ⟨_, rfl⟩) ?_
    exact kj_aret X (Or.inr ⟨_, rfl⟩) (by first | exact ⟨some _, rfl⟩ | exact ⟨none, rfl⟩ | exact ⟨_, rfl⟩) dJ5_copyOf_2_39 (by omega) (by omega) (fun H h => ⟨q, ⟨rfl, hq⟩, h⟩)
theorem ct_J5_copyOf0 (hF : kr_F G l) (hT : kr_tmp ad) : kr_T G l yJ5_copyOf (ws_ yJ5_copyOf cJ5_copyOf 2 (Option.some (Jvm.ClassFile.FieldType.array (Jvm.ClassFile.FieldType.object "java/lang/Object")))) 3 200 [.ref (kg_e0 G), .int 0] (kr_SB G ad bk σ) 1 0 (fun v H => ∃ q, (v = some (.ref q) ∧ σ (40, q) = none) ∧ kr_SB G ad bk (kr_up σ (40, q) (some (kr_row G 0 []))) H) kr_no := by
  refine kr_T.of (by decide +kernel) hF (by simp [Value.category]) (Nat.le_of_ble_eq_true rfl) (fun x hx X => ?_)
  obtain ⟨mi, hmi⟩ : ∃ mi, ∀ s : State, (kg_s G).WarmedH s.vm → va_Mi "[Ljava/lang/Object;" mi s := by
    obtain ⟨b, h1, h2⟩ := kf_given X.F
    obtain ⟨mi, h⟩ := va_Mi.of (h2 (.isRef (.mirror "[Ljava/lang/Object;")) (by decide +kernel))
    exact ⟨mi, fun s hs => h.moved hs.alike⟩
  refine kj_aload_n X dJ5_copyOf_0 rfl rfl (by first | exact ⟨some _, rfl⟩ | exact ⟨none, rfl⟩ | exact ⟨_, rfl⟩) ?_
  refine kj_iload_n X dJ5_copyOf_1 rfl rfl ?_
  refine kj_aload_n X dJ5_copyOf_2 rfl rfl (by first | exact ⟨some _, rfl⟩ | exact ⟨none, rfl⟩ | exact ⟨_, rfl⟩) ?_
  refine kj_getC X (hmi _ X.warm) q179 dJ5_copyOf_3 (fun H h hS => by
    obtain ⟨cell, c1, c2, c3⟩ := kf_x0 X.F
    exact ⟨cell, kr_oldat X hS c1, c2, by rw [X.warm.alike.findClass]; exact c3⟩) (Nat.le_of_ble_eq_true rfl) (by simp [Value.category]) ?_
  refine kj_callS X 3 (ct_J5_copyOf0_2 X.F hT hmi) (lw_S q211 q212 q50 q213) ⟨by decide, by decide, by decide +kernel⟩ dJ5_copyOf_6 rfl rfl (by first | exact Nat.le_of_ble_eq_true rfl | simp [kr_cat, Value.category]) ⟨Nat.le_of_ble_eq_true rfl, Nat.le_of_ble_eq_true rfl⟩ ⟨by dsimp only; omega, by dsimp only; omega⟩ (fun E => kjx_no) (fun v_6 => ?_)
  refine kj_open (fun q hq => ?_)
  obtain ⟨rfl, hq⟩ := hq
  exact kj_aret X (Or.inr ⟨_, rfl⟩) (by first | exact ⟨some _, rfl⟩ | exact ⟨none, rfl⟩ | exact ⟨_, rfl⟩) dJ5_copyOf_9 (by omega) (by omega) (fun H h => ⟨q, ⟨rfl, hq⟩, h⟩)
/-- toArray: a row of its own -/
theorem ct_J2_toArray (hF : kr_F G l) (hT : kr_tmp ad) (hi : σ i = some (.inr z)) : kr_T G l yJ2_toArray (ws_ yJ2_toArray cJ2_toArray 1 (Option.some (Jvm.ClassFile.FieldType.array (Jvm.ClassFile.FieldType.object "java/lang/Object")))) 4 300 [.ref (ad i)] (kr_S G ad σ) 1 z.1.length (fun v H => ∃ q, (v = some (.ref q) ∧ σ (40, q) = none) ∧ kr_S G ad (kr_up σ (40, q) (some (kr_row G z.1.length z.1))) H) kr_no := by
  refine kr_T.of (by decide +kernel) hF (by simp [Value.category]) (Nat.le_of_ble_eq_true rfl) (fun x hx X => ?_)
  refine kj_pure (fun H h => h.1) (fun he => ?_)
  refine kj_pure (fun H h => h.fits hi) (fun hf => ?_)
  refine kj_ex (P' := fun bk => kr_SB G ad bk σ) (fun H h => h.2) (fun bk => ?_)
  by_cases h0 : z.2.2 = 0
  · have hz : z.1 = [] := List.length_eq_zero_iff.mp (by omega)
    refine kj_aload_n X dJ2_toArray_0 rfl rfl (by first | exact ⟨some _, rfl⟩ | exact ⟨none, rfl⟩ | exact ⟨_, rfl⟩) ?_
    refine kj_get X kc_J2 1 (by decide) q111 (Or.inl rfl) dJ2_toArray_1 (fun H h => h.lo hi) rfl ?_
    refine kj_aload_n X dJ2_toArray_4 rfl rfl (by first | exact ⟨some _, rfl⟩ | exact ⟨none, rfl⟩ | exact ⟨_, rfl⟩) ?_
    refine kj_get X kc_J2 2 (by decide) q114 (Or.inl rfl) dJ2_toArray_5 (fun H h => h.lo hi) rfl ?_
    rw [if_pos h0, hz]
    refine kj_callS X 2 (ct_J5_copyOf0 X.F hT) (lw_S q176 q177 q50 q178) ⟨by decide, by decide, by decide +kernel⟩ dJ2_toArray_8 rfl rfl (by first | exact Nat.le_of_ble_eq_true rfl | simp [kr_cat, Value.category]) ⟨Nat.le_of_ble_eq_true rfl, Nat.le_of_ble_eq_true rfl⟩ ⟨by dsimp only; omega, by dsimp only; omega⟩ (fun E => kjx_no) (fun v_8 => ?_)
    refine kj_open (fun q hq => ?_)
    obtain ⟨rfl, hq⟩ := hq
    exact kj_aret X (Or.inr ⟨_, rfl⟩) (by first | exact ⟨some _, rfl⟩ | exact ⟨none, rfl⟩ | exact ⟨_, rfl⟩) dJ2_toArray_11 (by omega) (by omega) (fun H h => ⟨q, ⟨rfl, hq⟩, h.S (he.up (fun c fs e => by rw [hq] at e; cases e))⟩)
  · refine kj_aload_n X dJ2_toArray_0 rfl rfl (by first | exact ⟨some _, rfl⟩ | exact ⟨none, rfl⟩ | exact ⟨_, rfl⟩) ?_
    refine kj_get X kc_J2 1 (by decide) q111 (Or.inl rfl) dJ2_toArray_1 (fun H h => h.lo hi) rfl ?_
    refine kj_aload_n X dJ2_toArray_4 rfl rfl (by first | exact ⟨some _, rfl⟩ | exact ⟨none, rfl⟩ | exact ⟨_, rfl⟩) ?_
    refine kj_get X kc_J2 2 (by decide) q114 (Or.inl rfl) dJ2_toArray_5 (fun H h => h.lo hi) rfl ?_
    rw [if_neg h0]
    refine kj_callS X 2 (ct_J5_copyOf X.F hT he hi h0 (m := z.1.length) (Nat.le_refl _) (by omega)) (lw_S q176 q177 q50 q178) ⟨by decide, by decide, by decide +kernel⟩ dJ2_toArray_8 rfl rfl (by first | exact Nat.le_of_ble_eq_true rfl | simp [kr_cat, Value.category]) ⟨Nat.le_of_ble_eq_true rfl, Nat.le_of_ble_eq_true rfl⟩ ⟨by dsimp only; omega, by dsimp only; omega⟩ (fun E => kjx_no) (fun v_8 => ?_)
    refine kj_open (fun q hq => ?_)
    obtain ⟨rfl, hq⟩ := hq
    exact kj_aret X (Or.inr ⟨_, rfl⟩) (by first | exact ⟨some _, rfl⟩ | exact ⟨none, rfl⟩ | exact ⟨_, rfl⟩) dJ2_toArray_11 (by omega) (by omega) (fun H h => ⟨q, ⟨rfl, hq⟩, h.S (he.up (fun c fs e => by rw [hq] at e; cases e))⟩)
end
