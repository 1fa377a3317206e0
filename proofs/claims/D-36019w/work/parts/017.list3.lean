/-! java.util.ArrayList: grow, add at the end, add at a place -/
set_option maxRecDepth 100000
def kr_cap (c : Nat) : Nat := if c = 0 then 10 else c + max 1 (c / 2)
theorem kr_cap_pos (c : Nat) : kr_cap c ≠ 0 := by unfold kr_cap; split <;> omega
theorem kr_cap_lt (c : Nat) : c < kr_cap c := by unfold kr_cap; split <;> omega
theorem kr_cap_le {c : Nat} (h : c ≤ 600) : kr_cap c ≤ 1000 := by unfold kr_cap; split <;> omega
theorem kr_soft {n : Nat} (h : n < 2 ^ 30) : ¬ (2147483639 : Int32) < nI n := by
  rw [Int32.lt_iff_toInt_lt, nI_toInt (by omega)]
  have : (2147483639 : Int32).toInt = 2147483639 := by decide
  omega
section
variable {G : kr_G} {l : Launch} {ad bk : kr_Ro → Nat} {σ : kr_Ro → Option kr_AE} {i : kr_Ro} {z : List Nat × Int32 × Nat} {H H1 : Heap} {a : Nat}
theorem ct_J3_newLength (hF : kr_F G l) {P : Heap → Prop} {c m n : Nat} (h0 : 0 < c + max m n) (h1 : c + max m n < 2 ^ 30) : kr_T G l yJ3_newLength (ws_ yJ3_newLength cJ3_newLength 4 (Option.some Jvm.ClassFile.FieldType.int)) 1 40 [.int (nI c), .int (nI m), .int (nI n)] P 0 0 (fun v H => v = some (.int (nI (c + max m n))) ∧ P H) kr_no := by
  refine kr_T.of (by decide +kernel) hF (by simp [Value.category]) (Nat.le_of_ble_eq_true rfl) (fun x hx X => ?_)
  refine kj_iload_n X dJ3_newLength_0 rfl rfl ?_
  refine kj_iload_n X dJ3_newLength_1 rfl rfl ?_
  refine kj_iload_n X dJ3_newLength_2 rfl rfl ?_
  refine kj_max X q169 dJ3_newLength_3 (Nat.le_of_ble_eq_true rfl) (by simp [Value.category]) (by dsimp only; omega) (by dsimp only; omega) ?_
  rw [kr_maxI (by omega) (by omega)]
  refine kj_iadd X dJ3_newLength_6 ?_
  rw [nI_add]
  refine kj_istore_n (lv' := [_, _, _, _]) X dJ3_newLength_7 rfl (by decide) (by intro w h _; cases h <;> first | rfl | exact kr_cat _) rfl ?_
  refine kj_iconst (v := 0) X dJ3_newLength_8 (by decide) ?_
  refine kj_iload_n X dJ3_newLength_9 rfl rfl ?_
  refine kj_icmp_ge X 21 dJ3_newLength_10 (by decide) (fun c_10 => ?_) (fun c_10 => ?_)
  · exact absurd c_10 (nI_nle (by omega) (by omega))
  · refine kj_iload_n X dJ3_newLength_13 rfl rfl ?_
    refine kj_ldc X q172 dJ3_newLength_14 ?_
    refine kj_icmp_gt X 21 dJ3_newLength_16 (by decide) (fun c_16 => ?_) (fun c_16 => ?_)
    · exact absurd c_16 (kr_soft h1)
    · refine kj_iload_n X dJ3_newLength_19 rfl rfl ?_
      exact kj_iret X dJ3_newLength_20 (by omega) (by omega) (fun H h => ⟨rfl, h⟩)
theorem ct_J2_grow_2 (hF : kr_F G l) (hT : kr_tmp ad) (he : kr_elem ad σ) (hi : σ i = some (.inr z)) (hl : z.1.length = z.2.2) (hc : z.2.2 ≤ 600) : kr_T G l yJ2_grow_2 (ws_ yJ2_grow_2 cJ2_grow_2 4 (Option.some (Jvm.ClassFile.FieldType.array (Jvm.ClassFile.FieldType.object "java/lang/Object")))) 4 300 [.ref (ad i), .int (nI (z.1.length + 1))] (kr_SB G ad bk σ) 1 (kr_cap z.2.2) (fun v H => ∃ bk', v = some (.ref (bk' i)) ∧ kr_SB G ad bk' (kr_up σ i (some (.inr (z.1, z.2.1, kr_cap z.2.2)))) H) kr_no := by
  refine kr_T.of (by decide +kernel) hF (by simp [Value.category]) (Nat.le_of_ble_eq_true rfl) (fun x hx X => ?_)
  have hcl := kr_cap_le hc
  have hcc := kr_cap_lt z.2.2
  refine kj_pure (fun H h => h.2) (fun hf => ?_)
  refine kj_aload_n X dJ2_grow_2_0 rfl rfl (by first | exact ⟨some _, rfl⟩ | exact ⟨none, rfl⟩ | exact ⟨_, rfl⟩) ?_
  refine kj_get X kc_J2 1 (by decide) q111 (Or.inl rfl) dJ2_grow_2_1 (fun H h => h.lo hi) rfl ?_
  by_cases h0 : z.2.2 = 0
  · rw [if_pos h0]
    have hz : z.1 = [] := List.eq_nil_of_length_eq_zero (by omega)
    refine kj_tlen X (kf_e0 X.F) dJ2_grow_2_4 ?_
    refine kj_istore_n (lv' := [_, _, _, _]) X dJ2_grow_2_5 rfl (by decide) (by intro w h _; cases h <;> first | rfl | exact kr_cat _) rfl ?_
    refine kj_iload_n X dJ2_grow_2_6 rfl rfl ?_
    refine kj_if_gt X 20 dJ2_grow_2_7 (by decide) (fun c_7 => ?_) (fun c_7 => ?_)
    · exact absurd c_7 (by decide)
    · refine kj_aload_n X dJ2_grow_2_10 rfl rfl (by first | exact ⟨some _, rfl⟩ | exact ⟨none, rfl⟩ | exact ⟨_, rfl⟩) ?_
      refine kj_get X kc_J2 1 (by decide) q111 (Or.inl rfl) dJ2_grow_2_11 (fun H h => h.lo hi) rfl ?_
      rw [if_pos h0]
      refine kj_gets X (kf_e0 X.F) q109 dJ2_grow_2_14 ?_
      refine kj_acmp_eq X (by first | exact Eq.refl (va_rf (some _)) | exact Eq.refl (va_rf none) | exact Eq.refl (va_rf _)) (by first | exact Eq.refl (va_rf (some _)) | exact Eq.refl (va_rf none) | exact Eq.refl (va_rf _)) 45 dJ2_grow_2_17 (by decide) (fun c_17 => ?_) (fun c_17 => ?_)
      · refine kj_aload_n X dJ2_grow_2_45 rfl rfl (by first | exact ⟨some _, rfl⟩ | exact ⟨none, rfl⟩ | exact ⟨_, rfl⟩) ?_
        refine kj_bipush (v := 10) X dJ2_grow_2_46 (by decide) ?_
        refine kj_iload_n X dJ2_grow_2_48 rfl rfl ?_
        refine kj_max X q223 dJ2_grow_2_49 (Nat.le_of_ble_eq_true rfl) (by simp [Value.category]) (by dsimp only; omega) (by dsimp only; omega) ?_
        rw [show (10 : Int32) = nI 10 from rfl, kr_maxI (by decide) (by omega), show max 10 (z.1.length + 1) = 10 by omega]
        have ecap : kr_cap z.2.2 = 10 := by rw [kr_cap, if_pos h0]
        refine kj_anew (Pn := fun q H => σ (40, q) = none ∧ kr_SB G ad bk (kr_up σ (40, q) (some (.inl (.inl (.inl (kg_A G 6, 10, .inr (.inr (.inr (.inr (fun _ => none)))))))))) H) X 6 rfl q224 q215 dJ2_grow_2_52 (nI_pos (by omega)) (nI_clamp (by omega)) (by omega) (by dsimp only; omega) (by dsimp only; omega) (fun H H1 h ho a u => ⟨h.free (hT _).1, h.new (i := (40, H.size)) (hT _).1 a ho u⟩) (fun q => ?_)
        refine kj_and (fun hq => ?_)
        have hqi : i ≠ (40, q) := fun e => by rw [e, hq] at hi; cases hi
        have hi2 : kr_up σ (40, q) (some (.inl (.inl (.inl (kg_A G 6, 10, .inr (.inr (.inr (.inr (fun _ => none)))))))) ) i = some (.inr z) := by rw [kr_up_n hqi]; exact hi
        refine kj_dup_x1 X dJ2_grow_2_55 (by first | rfl | exact kr_cat _) (by first | rfl | exact kr_cat _) ?_
        refine kj_put (P' := kr_H G (Sum.elim ad bk) (kr_up (kr_exp G (kr_up σ (40, q) (some (.inl (.inl (.inl (kg_A G 6, 10, .inr (.inr (.inr (.inr (fun _ => none)))))))) )) bk) (.inl i) (some (kr_lo G q (z.1, z.2.1, 10))))) X kc_J2 1 (by decide) q111 (Or.inl rfl) rfl dJ2_grow_2_56 rfl rfl (Nat.le_of_ble_eq_true rfl) (fun H h => h.lo hi2) (fun H H1 h a u => h.1.put (i := .inl i) (kr_lo G q (z.1, z.2.1, 10)) (kr_exp_l hi2) a u) ?_
        refine kj_aret X (Or.inr ⟨_, rfl⟩) ⟨some q, rfl⟩ dJ2_grow_2_59 (by omega) (by omega) (fun H h => ⟨kr_up bk i q, by rw [kr_up_s], ?_⟩)
        rw [ecap]
        refine kr_SB.rebk (q := q) hf h ⟨by dsimp only; omega, by dsimp only; omega⟩ (by dsimp only; omega) (hT q).1 hqi hq kr_up_s ?_ (fun r h1 h2 h3 => ?_)
        · rw [kr_up_n (by simpa using hqi.symm), kr_exp_c kr_up_s]
          simp [kr_la, hz]
        · rw [kr_up_n h1, kr_exp_up0 hq, kr_up_n h3]
      · exact absurd rfl c_17
  · rw [if_neg h0]
    refine kj_alen X 6 rfl dJ2_grow_2_4 (fun H h => h.la hi h0) rfl ?_
    rw [show (Int32.ofNat z.2.2) = nI z.2.2 from rfl]
    refine kj_istore_n (lv' := [_, _, _, _]) X dJ2_grow_2_5 rfl (by decide) (by intro w h _; cases h <;> first | rfl | exact kr_cat _) rfl ?_
    refine kj_iload_n X dJ2_grow_2_6 rfl rfl ?_
    refine kj_if_gt X 20 dJ2_grow_2_7 (by decide) (fun c_7 => ?_) (fun c_7 => ?_)
    rotate_left
    · exact absurd (by rw [← nI_0]; exact nI_lt (by omega) (by omega)) c_7
    refine kj_iload_n X dJ2_grow_2_20 rfl rfl ?_
    refine kj_iload_n X dJ2_grow_2_21 rfl rfl ?_
    refine kj_iload_n X dJ2_grow_2_22 rfl rfl ?_
    refine kj_isub X dJ2_grow_2_23 ?_
    refine kj_iload_n X dJ2_grow_2_24 rfl rfl ?_
    refine kj_iconst (v := 1) X dJ2_grow_2_25 (by decide) ?_
    refine kj_ishr X dJ2_grow_2_26 ?_
    rw [pk_sub (by omega), pk_shrN (by omega) _ 1 (by decide), show z.1.length + 1 - z.2.2 = 1 by omega]
    have ecap : kr_cap z.2.2 = z.2.2 + max 1 (z.2.2 / 2 ^ 1) := by rw [kr_cap, if_neg h0]
    refine kj_callS X 3 (ct_J3_newLength X.F (by omega) (by omega)) (lw_S q166 q167 q48 q168) ⟨by decide, by decide, by decide +kernel⟩ dJ2_grow_2_27 rfl rfl (by first | exact Nat.le_of_ble_eq_true rfl | simp [kr_cat, Value.category]) ⟨Nat.le_of_ble_eq_true rfl, Nat.le_of_ble_eq_true rfl⟩ ⟨by dsimp only; omega, by dsimp only; omega⟩ (fun E => kjx_no) (fun v_27 => ?_)
    refine kj_and (fun e => ?_)
    subst e
    rw [← ecap]
    refine kj_istore_n (lv' := [_, _, _, _]) X dJ2_grow_2_30 rfl (by decide) (by intro w h _; cases h <;> first | rfl | exact kr_cat _) rfl ?_
    refine kj_aload_n X dJ2_grow_2_31 rfl rfl (by first | exact ⟨some _, rfl⟩ | exact ⟨none, rfl⟩ | exact ⟨_, rfl⟩) ?_
    refine kj_aload_n X dJ2_grow_2_32 rfl rfl (by first | exact ⟨some _, rfl⟩ | exact ⟨none, rfl⟩ | exact ⟨_, rfl⟩) ?_
    refine kj_get X kc_J2 1 (by decide) q111 (Or.inl rfl) dJ2_grow_2_33 (fun H h => h.lo hi) rfl ?_
    refine kj_iload_n X dJ2_grow_2_36 rfl rfl ?_
    rw [if_neg h0]
    refine kj_callS X 2 (ct_J5_copyOf X.F hT he hi h0 (by omega) hcl) (lw_S q176 q177 q50 q178) ⟨by decide, by decide, by decide +kernel⟩ dJ2_grow_2_37 rfl rfl (by first | exact Nat.le_of_ble_eq_true rfl | simp [kr_cat, Value.category]) ⟨Nat.le_of_ble_eq_true rfl, Nat.le_of_ble_eq_true rfl⟩ ⟨by dsimp only; omega, by dsimp only; omega⟩ (fun E => kjx_no) (fun v_37 => ?_)
    refine kj_open (fun q hq => ?_)
    obtain ⟨rfl, hq⟩ := hq
    have hqi : i ≠ (40, q) := fun e => by rw [e, hq] at hi; cases hi
    have hi2 : kr_up σ (40, q) (some (kr_row G (kr_cap z.2.2) z.1)) i = some (.inr z) := by rw [kr_up_n hqi]; exact hi
    refine kj_dup_x1 X dJ2_grow_2_40 (by first | rfl | exact kr_cat _) (by first | rfl | exact kr_cat _) ?_
    have elo : kr_lo G q (z.1, z.2.1, kr_cap z.2.2) = .inl (.inr (17, [.int z.2.1, .ref q, .int (nI z.1.length)])) := by
      unfold kr_lo
      rw [if_neg (kr_cap_pos _)]
    refine kj_put (P' := kr_H G (Sum.elim ad bk) (kr_up (kr_exp G (kr_up σ (40, q) (some (kr_row G (kr_cap z.2.2) z.1))) bk) (.inl i) (some (kr_lo G q (z.1, z.2.1, kr_cap z.2.2))))) X kc_J2 1 (by decide) q111 (Or.inl rfl) rfl dJ2_grow_2_41 rfl rfl (Nat.le_of_ble_eq_true rfl) (fun H h => h.lo hi2) (fun H H1 h a u => by rw [elo]; exact h.1.put (i := .inl i) _ (kr_exp_l hi2) a u) ?_
    refine kj_aret X (Or.inr ⟨_, rfl⟩) ⟨some q, rfl⟩ dJ2_grow_2_44 (by omega) (by omega) (fun H h => ⟨kr_up bk i q, by rw [kr_up_s], ?_⟩)
    refine kr_SB.rebk (q := q) hf h ⟨by dsimp only; omega, by dsimp only; omega⟩ (kr_cap_pos _) (hT q).1 hqi hq kr_up_s ?_ (fun r h1 h2 h3 => ?_)
    · rw [kr_up_n (by simpa using hqi.symm), kr_exp_c kr_up_s]
      rfl
    · rw [kr_up_n h1, kr_exp_up0 hq, kr_up_n h3]
theorem ct_J2_grow (hF : kr_F G l) (hT : kr_tmp ad) (he : kr_elem ad σ) (hi : σ i = some (.inr z)) (hl : z.1.length = z.2.2) (hc : z.2.2 ≤ 600) : kr_T G l yJ2_grow (ws_ yJ2_grow cJ2_grow 1 (Option.some (Jvm.ClassFile.FieldType.array (Jvm.ClassFile.FieldType.object "java/lang/Object")))) 5 400 [.ref (ad i)] (kr_SB G ad bk σ) 1 (kr_cap z.2.2) (fun v H => ∃ bk', v = some (.ref (bk' i)) ∧ kr_SB G ad bk' (kr_up σ i (some (.inr (z.1, z.2.1, kr_cap z.2.2)))) H) kr_no := by
  refine kr_T.of (by decide +kernel) hF (by simp [Value.category]) (Nat.le_of_ble_eq_true rfl) (fun x hx X => ?_)
  refine kj_aload_n X dJ2_grow_0 rfl rfl (by first | exact ⟨some _, rfl⟩ | exact ⟨none, rfl⟩ | exact ⟨_, rfl⟩) ?_
  refine kj_aload_n X dJ2_grow_1 rfl rfl (by first | exact ⟨some _, rfl⟩ | exact ⟨none, rfl⟩ | exact ⟨_, rfl⟩) ?_
  refine kj_get X kc_J2 2 (by decide) q114 (Or.inl rfl) dJ2_grow_2 (fun H h => h.lo hi) rfl ?_
  refine kj_iconst (v := 1) X dJ2_grow_5 (by decide) ?_
  refine kj_iadd X dJ2_grow_6 ?_
  rw [nI_1]
  refine kj_callV X 1 (ct_J2_grow_2 X.F hT he hi hl hc) (lw_V q162 q164 qs2 q46 q165) ⟨rfl, by decide, by decide, by decide +kernel⟩ dJ2_grow_7 rfl rfl (by first | exact Nat.le_of_ble_eq_true rfl | simp [kr_cat, Value.category]) ⟨Nat.le_of_ble_eq_true rfl, Nat.le_of_ble_eq_true rfl⟩ ⟨by dsimp only; omega, by dsimp only; omega⟩ kc_J2.1 (fun H h => h.list hi) (fun E => kjx_no) (fun v_7 => ?_)
  refine kj_open (fun bk' e => ?_)
  subst e
  exact kj_aret X (Or.inr ⟨_, rfl⟩) (by first | exact ⟨some _, rfl⟩ | exact ⟨none, rfl⟩ | exact ⟨_, rfl⟩) dJ2_grow_10 (by omega) (by omega) (fun H h => ⟨bk', rfl, h⟩)
end
