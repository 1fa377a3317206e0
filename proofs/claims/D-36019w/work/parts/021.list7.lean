/-! java.util.ArrayList: indexOf, contains, remove a thing, set, clear -/
set_option maxRecDepth 100000
/-- where a thing stands first -/
def kr_first (xs : List Nat) (o : Nat) (r : Option Nat) : Prop := match r with
  | some k => xs[k]? = some o ∧ ∀ j, j < k → xs[j]? ≠ some o
  | none => o ∉ xs
theorem kr_first_no {xs : List Nat} {o : Nat} (h : ∀ j, j < xs.length → xs[j]? ≠ some o) : o ∉ xs := by
  intro hm
  obtain ⟨k, hk⟩ := List.getElem?_of_mem hm
  exact h k (List.getElem?_eq_some_iff.mp hk).1 hk
section
variable {G : kr_G} {l : Launch} {ad bk : kr_Ro → Nat} {σ : kr_Ro → Option kr_AE} {i j : kr_Ro} {z : List Nat × Int32 × Nat} {H H1 : Heap} {a : Nat} {fs : List Value}
theorem kr_SB.rc (h : kr_SB G ad bk σ H) (hj : σ j = some (.inl (.inl (.inr (5, fs))))) : ∃ fs, va_at (kg_D G) kr_cl (ad j, .inr (5, fs)) H := ⟨_, (h.own hj).1⟩
theorem ct_J2_indexOfRange (hF : kr_F G l) (hi : σ i = some (.inr z)) (hj : σ j = some (.inl (.inl (.inr (5, fs))))) : kr_T G l yJ2_indexOfRange (ws_ yJ2_indexOfRange cJ2_indexOfRange 6 (Option.some Jvm.ClassFile.FieldType.int)) 2 100 [.ref (ad i), .ref (ad j), .int 0, .int (nI z.1.length)] (kr_SB G ad bk σ) 0 0 (fun v H => ∃ r, (kr_first z.1 (ad j) r ∧ v = some (.int (match r with | some k => nI k | none => -1))) ∧ kr_SB G ad bk σ H) kr_no := by
  refine kr_T.of (by decide +kernel) hF (by simp [Value.category]) (Nat.le_of_ble_eq_true rfl) (fun x hx X => ?_)
  refine kj_pure (fun H h => h.2 i z hi) (fun hz => ?_)
  refine kj_aload_n X dJ2_indexOfRange_0 rfl rfl (by first | exact ⟨some _, rfl⟩ | exact ⟨none, rfl⟩ | exact ⟨_, rfl⟩) ?_
  refine kj_get X kc_J2 1 (by decide) q111 (Or.inl rfl) dJ2_indexOfRange_1 (fun H h => h.lo hi) rfl ?_
  obtain ⟨es, hes⟩ : ∃ es, es = if z.2.2 = 0 then kg_e0 G else bk i := ⟨_, rfl⟩
  rw [← hes]
  refine kj_astore (lv' := [_, _, _, _, _, _]) X dJ2_indexOfRange_4 (by decide) (by intro w h _; cases h <;> first | rfl | exact kr_cat _) (by first | exact ⟨some _, rfl⟩ | exact ⟨none, rfl⟩ | exact ⟨_, rfl⟩) rfl ?_
  refine kj_aload_n X dJ2_indexOfRange_6 rfl rfl (by first | exact ⟨some _, rfl⟩ | exact ⟨none, rfl⟩ | exact ⟨_, rfl⟩) ?_
  refine kj_ifnonnull X (by first | exact Eq.refl (va_rf (some _)) | exact Eq.refl (va_rf none) | exact Eq.refl (va_rf _)) 39 dJ2_indexOfRange_7 (by decide) (fun a_7 c_7 => ?_) (fun c_7 => ?_)
  rotate_left
  · cases c_7
  rw [show (0 : Int32) = nI 0 from rfl]
  refine kj_iload_n X dJ2_indexOfRange_39 rfl rfl ?_
  refine kj_istore (lv' := [_, _, _, _, _, _]) X dJ2_indexOfRange_40 (by decide) (by intro w h _; cases h <;> first | rfl | exact kr_cat _) rfl ?_
  have loop : ∀ d k, k + d = z.1.length → (∀ q, q < k → z.1[q]? ≠ some (ad j)) → kr_J G x 6 (kr_Q G x 0 0 (fun v H => ∃ r, (kr_first z.1 (ad j) r ∧ v = some (.int (match r with | some k => nI k | none => -1))) ∧ kr_SB G ad bk σ H) kr_no) (kr_SB G ad bk σ) 0 0 42 [some (.ref (ad i)), some (.ref (ad j)), some (.int (nI 0)), some (.int (nI z.1.length)), some (.ref es), some (.int (nI k))] [] := by
    intro d
    induction d with
    | zero =>
      intro k hk hn
      refine kj_iload X dJ2_indexOfRange_42 rfl ?_
      refine kj_iload_n X dJ2_indexOfRange_44 rfl rfl ?_
      refine kj_icmp_ge X 69 dJ2_indexOfRange_45 (by decide) (fun c_45 => ?_) (fun c_45 => ?_)
      · refine kj_iconst (v := -1) X dJ2_indexOfRange_69 (by decide) ?_
        exact kj_iret X dJ2_indexOfRange_70 (by omega) (by omega) (fun H h => ⟨none, ⟨kr_first_no (fun q hq => hn q (by omega)), rfl⟩, h⟩)
      · exact absurd (nI_le (by omega) (by omega)) c_45
    | succ d ih =>
      intro k hk hn
      have hlt : k < z.1.length := by omega
      have h0 : z.2.2 ≠ 0 := by omega
      have e1 : es = bk i := by rw [hes, if_neg h0]
      subst e1
      obtain ⟨a, ha⟩ : ∃ a, z.1[k]? = some a := ⟨_, List.getElem?_eq_getElem hlt⟩
      refine kj_iload X dJ2_indexOfRange_42 rfl ?_
      refine kj_iload_n X dJ2_indexOfRange_44 rfl rfl ?_
      refine kj_icmp_ge X 69 dJ2_indexOfRange_45 (by decide) (fun c_45 => ?_) (fun c_45 => ?_)
      · exact absurd c_45 (by rw [Int32.not_le]; exact nI_lt hlt (by omega))
      · refine kj_aload_n X dJ2_indexOfRange_48 rfl rfl (by first | exact ⟨some _, rfl⟩ | exact ⟨none, rfl⟩ | exact ⟨_, rfl⟩) ?_
        refine kj_aload X dJ2_indexOfRange_49 rfl (by first | exact ⟨some _, rfl⟩ | exact ⟨none, rfl⟩ | exact ⟨_, rfl⟩) ?_
        refine kj_iload X dJ2_indexOfRange_51 rfl ?_
        refine kj_aald X 6 rfl dJ2_indexOfRange_53 (fun H h => h.la hi h0) (vp_in_nI (N := z.2.2) (by omega) (by omega)) ?_
        rw [nI_clamp (by omega : k < 2 ^ 31), ha]
        refine kj_callU X 1 (ct_J26_equals X.F (ad j) a) q429 q431 q442 q430 q1875 q465 ⟨by decide, by decide, by decide +kernel⟩ dJ2_indexOfRange_54 rfl rfl (by first | exact Nat.le_of_ble_eq_true rfl | simp [kr_cat, Value.category]) ⟨Nat.le_of_ble_eq_true rfl, Nat.le_of_ble_eq_true rfl⟩ ⟨by dsimp only; omega, by dsimp only; omega⟩ kc_X16.1 (fun H h => h.rc hj) (fun E => kjx_no) (fun v_54 => ?_)
        refine kj_and (fun e => ?_)
        subst e
        refine kj_if_eq X 63 dJ2_indexOfRange_57 (by decide) (fun c_57 => ?_) (fun c_57 => ?_)
        · have hne : ad j ≠ a := fun e => by rw [kr_b, if_pos (by simpa using e)] at c_57; exact absurd c_57 (by decide)
          refine kj_iinc (lv' := [_, _, _, _, _, _]) (w := nI (k + 1)) X dJ2_indexOfRange_63 (by decide) rfl (by intro w h _; cases h <;> first | rfl | exact kr_cat _) (nI_1 k) rfl ?_
          refine kj_goto X 42 dJ2_indexOfRange_66 (by decide) (ih (k + 1) (by omega) (fun q hq => ?_))
          by_cases e : q = k
          · rw [e, ha]
            exact fun w => hne (Option.some.inj w).symm
          · exact hn q (by omega)
        · have he : ad j = a := by
            by_cases e : ad j = a
            · exact e
            · exact absurd (by rw [kr_b, if_neg (by simpa using e)]) c_57
          refine kj_iload X dJ2_indexOfRange_60 rfl ?_
          exact kj_iret X dJ2_indexOfRange_62 (by omega) (by omega) (fun H h => ⟨some k, ⟨⟨by rw [ha, he], hn⟩, rfl⟩, h⟩)
  exact loop z.1.length 0 (by omega) (fun q hq => absurd hq (Nat.not_lt_zero q))
theorem ct_J2_indexOf (hF : kr_F G l) (hi : σ i = some (.inr z)) (hj : σ j = some (.inl (.inl (.inr (5, fs))))) : kr_T G l yJ2_indexOf (ws_ yJ2_indexOf cJ2_indexOf 2 (Option.some Jvm.ClassFile.FieldType.int)) 3 200 [.ref (ad i), .ref (ad j)] (kr_SB G ad bk σ) 0 0 (fun v H => ∃ r, (kr_first z.1 (ad j) r ∧ v = some (.int (match r with | some k => nI k | none => -1))) ∧ kr_SB G ad bk σ H) kr_no := by
  refine kr_T.of (by decide +kernel) hF (by simp [Value.category]) (Nat.le_of_ble_eq_true rfl) (fun x hx X => ?_)
  refine kj_aload_n X dJ2_indexOf_0 rfl rfl (by first | exact ⟨some _, rfl⟩ | exact ⟨none, rfl⟩ | exact ⟨_, rfl⟩) ?_
  refine kj_aload_n X dJ2_indexOf_1 rfl rfl (by first | exact ⟨some _, rfl⟩ | exact ⟨none, rfl⟩ | exact ⟨_, rfl⟩) ?_
  refine kj_iconst (v := 0) X dJ2_indexOf_2 (by decide) ?_
  refine kj_aload_n X dJ2_indexOf_3 rfl rfl (by first | exact ⟨some _, rfl⟩ | exact ⟨none, rfl⟩ | exact ⟨_, rfl⟩) ?_
  refine kj_get X kc_J2 2 (by decide) q114 (Or.inl rfl) dJ2_indexOf_4 (fun H h => h.lo hi) rfl ?_
  refine kj_callV X 3 (ct_J2_indexOfRange X.F hi hj) (lw_V q424 q425 q426 q46 q427) ⟨rfl, by decide, by decide, by decide +kernel⟩ dJ2_indexOf_7 rfl rfl (by first | exact Nat.le_of_ble_eq_true rfl | simp [kr_cat, Value.category]) ⟨Nat.le_of_ble_eq_true rfl, Nat.le_of_ble_eq_true rfl⟩ ⟨by dsimp only; omega, by dsimp only; omega⟩ kc_J2.1 (fun H h => h.list hi) (fun E => kjx_no) (fun v_7 => ?_)
  refine kj_open (fun r hr => ?_)
  obtain ⟨hr, e⟩ := hr
  subst e
  exact kj_iret X dJ2_indexOf_10 (by omega) (by omega) (fun H h => ⟨r, ⟨hr, rfl⟩, h⟩)
theorem ct_J2_contains (hF : kr_F G l) (hi : σ i = some (.inr z)) (hj : σ j = some (.inl (.inl (.inr (5, fs))))) : kr_T G l yJ2_contains (ws_ yJ2_contains cJ2_contains 2 (Option.some Jvm.ClassFile.FieldType.boolean)) 4 300 [.ref (ad i), .ref (ad j)] (kr_S G ad σ) 0 0 (fun v H => v = some (.int (kr_b (decide (ad j ∈ z.1)))) ∧ kr_S G ad σ H) kr_no := by
  refine kr_T.of (by decide +kernel) hF (by simp [Value.category]) (Nat.le_of_ble_eq_true rfl) (fun x hx X => ?_)
  refine kj_pure (fun H h => h.1) (fun he => ?_)
  refine kj_ex (P' := fun bk => kr_SB G ad bk σ) (fun H h => h.2) (fun bk => ?_)
  refine kj_pure (fun H h => h.2 i z hi) (fun hz => ?_)
  refine kj_aload_n X dJ2_contains_0 rfl rfl (by first | exact ⟨some _, rfl⟩ | exact ⟨none, rfl⟩ | exact ⟨_, rfl⟩) ?_
  refine kj_aload_n X dJ2_contains_1 rfl rfl (by first | exact ⟨some _, rfl⟩ | exact ⟨none, rfl⟩ | exact ⟨_, rfl⟩) ?_
  refine kj_callV X 1 (ct_J2_indexOf X.F hi hj) (lw_V q420 q421 q422 q46 q423) ⟨rfl, by decide, by decide, by decide +kernel⟩ dJ2_contains_2 rfl rfl (by first | exact Nat.le_of_ble_eq_true rfl | simp [kr_cat, Value.category]) ⟨Nat.le_of_ble_eq_true rfl, Nat.le_of_ble_eq_true rfl⟩ ⟨by dsimp only; omega, by dsimp only; omega⟩ kc_J2.1 (fun H h => h.list hi) (fun E => kjx_no) (fun v_2 => ?_)
  refine kj_open (fun r hr => ?_)
  obtain ⟨hr, e⟩ := hr
  subst e
  cases r with
  | none =>
    have hr' : ad j ∉ z.1 := hr
    refine kj_if_lt X 12 dJ2_contains_5 (by decide) (fun c_5 => ?_) (fun c_5 => ?_)
    · refine kj_iconst (v := 0) X dJ2_contains_12 (by decide) ?_
      exact kj_zret X rfl dJ2_contains_13 (by omega) (by omega) (fun H h => ⟨by simp [kr_b, hr'], h.S he⟩)
    · exact absurd (by decide) c_5
  | some k =>
    have hr' : ad j ∈ z.1 := List.mem_of_getElem? hr.1
    have hlt : k < z.1.length := (List.getElem?_eq_some_iff.mp hr.1).1
    refine kj_if_lt X 12 dJ2_contains_5 (by decide) (fun c_5 => ?_) (fun c_5 => ?_)
    · exact absurd c_5 (nI_pos (by omega))
    · refine kj_iconst (v := 1) X dJ2_contains_8 (by decide) ?_
      refine kj_goto X 13 dJ2_contains_9 (by decide) ?_
      exact kj_zret X rfl dJ2_contains_13 (by omega) (by omega) (fun H h => ⟨by simp [kr_b, hr'], h.S he⟩)
theorem ct_J2_remove_2 (hF : kr_F G l) (hi : σ i = some (.inr z)) (hj : σ j = some (.inl (.inl (.inr (5, fs))))) : kr_T G l yJ2_remove_2 (ws_ yJ2_remove_2 cJ2_remove_2 5 (Option.some Jvm.ClassFile.FieldType.boolean)) 3 200 [.ref (ad i), .ref (ad j)] (kr_S G ad σ) 0 0 (fun v H => ∃ mc, v = some (.int (kr_b (decide (ad j ∈ z.1)))) ∧ kr_S G ad (kr_up σ i (some (.inr (z.1.erase (ad j), mc, z.2.2)))) H) kr_no := by
  refine kr_T.of (by decide +kernel) hF (by simp [Value.category]) (Nat.le_of_ble_eq_true rfl) (fun x hx X => ?_)
  refine kj_pure (fun H h => h.1) (fun he => ?_)
  refine kj_ex (P' := fun bk => kr_SB G ad bk σ) (fun H h => h.2) (fun bk => ?_)
  refine kj_pure (fun H h => h.2 i z hi) (fun hz => ?_)
  refine kj_aload_n X dJ2_remove_2_0 rfl rfl (by first | exact ⟨some _, rfl⟩ | exact ⟨none, rfl⟩ | exact ⟨_, rfl⟩) ?_
  refine kj_get X kc_J2 1 (by decide) q111 (Or.inl rfl) dJ2_remove_2_1 (fun H h => h.lo hi) rfl ?_
  obtain ⟨es, hes⟩ : ∃ es, es = if z.2.2 = 0 then kg_e0 G else bk i := ⟨_, rfl⟩
  rw [← hes]
  refine kj_astore_n (lv' := [_, _, _, _, _]) X dJ2_remove_2_4 rfl (by decide) (by intro w h _; cases h <;> first | rfl | exact kr_cat _) (by first | exact ⟨some _, rfl⟩ | exact ⟨none, rfl⟩ | exact ⟨_, rfl⟩) rfl ?_
  refine kj_aload_n X dJ2_remove_2_5 rfl rfl (by first | exact ⟨some _, rfl⟩ | exact ⟨none, rfl⟩ | exact ⟨_, rfl⟩) ?_
  refine kj_get X kc_J2 2 (by decide) q114 (Or.inl rfl) dJ2_remove_2_6 (fun H h => h.lo hi) rfl ?_
  refine kj_istore_n (lv' := [_, _, _, _, _]) X dJ2_remove_2_9 rfl (by decide) (by intro w h _; cases h <;> first | rfl | exact kr_cat _) rfl ?_
  refine kj_iconst (v := 0) X dJ2_remove_2_10 (by decide) ?_
  refine kj_istore (lv' := [_, _, _, _, _]) X dJ2_remove_2_11 (by decide) (by intro w h _; cases h <;> first | rfl | exact kr_cat _) rfl ?_
  refine kj_aload_n X dJ2_remove_2_13 rfl rfl (by first | exact ⟨some _, rfl⟩ | exact ⟨none, rfl⟩ | exact ⟨_, rfl⟩) ?_
  refine kj_ifnonnull X (by first | exact Eq.refl (va_rf (some _)) | exact Eq.refl (va_rf none) | exact Eq.refl (va_rf _)) 39 dJ2_remove_2_14 (by decide) (fun a_14 c_14 => ?_) (fun c_14 => ?_)
  rotate_left
  · cases c_14
  rw [show (0 : Int32) = nI 0 from rfl]
  have loop : ∀ d k, k + d = z.1.length → (∀ q, q < k → z.1[q]? ≠ some (ad j)) → kr_J G x 5 (kr_Q G x 0 0 (fun v H => ∃ mc, v = some (.int (kr_b (decide (ad j ∈ z.1)))) ∧ kr_S G ad (kr_up σ i (some (.inr (z.1.erase (ad j), mc, z.2.2)))) H) kr_no) (kr_SB G ad bk σ) 0 0 39 [some (.ref (ad i)), some (.ref (ad j)), some (.ref es), some (.int (nI z.1.length)), some (.int (nI k))] [] := by
    intro d
    induction d with
    | zero =>
      intro k hk hn
      have hr' : ad j ∉ z.1 := kr_first_no (fun q hq => hn q (by omega))
      refine kj_iload X dJ2_remove_2_39 rfl ?_
      refine kj_iload_n X dJ2_remove_2_41 rfl rfl ?_
      refine kj_icmp_ge X 65 dJ2_remove_2_42 (by decide) (fun c_42 => ?_) (fun c_42 => ?_)
      · have e1 : kr_up σ i (some (.inr (z.1.erase (ad j), z.2.1, z.2.2))) = σ := by rw [List.erase_of_not_mem hr']; exact kr_up_id hi
        refine kj_iconst (v := 0) X dJ2_remove_2_65 (by decide) ?_
        exact kj_zret X rfl dJ2_remove_2_66 (by omega) (by omega) (fun H h => ⟨z.2.1, by simp [kr_b, hr'], by rw [e1]; exact h.S he⟩)
      · exact absurd (nI_le (by omega) (by omega)) c_42
    | succ d ih =>
      intro k hk hn
      have hlt : k < z.1.length := by omega
      have h0 : z.2.2 ≠ 0 := by omega
      have e1 : es = bk i := by rw [hes, if_neg h0]
      subst e1
      obtain ⟨a, ha⟩ : ∃ a, z.1[k]? = some a := ⟨_, List.getElem?_eq_getElem hlt⟩
      refine kj_iload X dJ2_remove_2_39 rfl ?_
      refine kj_iload_n X dJ2_remove_2_41 rfl rfl ?_
      refine kj_icmp_ge X 65 dJ2_remove_2_42 (by decide) (fun c_42 => ?_) (fun c_42 => ?_)
      · exact absurd c_42 (by rw [Int32.not_le]; exact nI_lt hlt (by omega))
      · refine kj_aload_n X dJ2_remove_2_45 rfl rfl (by first | exact ⟨some _, rfl⟩ | exact ⟨none, rfl⟩ | exact ⟨_, rfl⟩) ?_
        refine kj_aload_n X dJ2_remove_2_46 rfl rfl (by first | exact ⟨some _, rfl⟩ | exact ⟨none, rfl⟩ | exact ⟨_, rfl⟩) ?_
        refine kj_iload X dJ2_remove_2_47 rfl ?_
        refine kj_aald X 6 rfl dJ2_remove_2_49 (fun H h => h.la hi h0) (vp_in_nI (N := z.2.2) (by omega) (by omega)) ?_
        rw [nI_clamp (by omega : k < 2 ^ 31), ha]
        refine kj_callU X 1 (ct_J26_equals X.F (ad j) a) q429 q431 q442 q430 q1875 q465 ⟨by decide, by decide, by decide +kernel⟩ dJ2_remove_2_50 rfl rfl (by first | exact Nat.le_of_ble_eq_true rfl | simp [kr_cat, Value.category]) ⟨Nat.le_of_ble_eq_true rfl, Nat.le_of_ble_eq_true rfl⟩ ⟨by dsimp only; omega, by dsimp only; omega⟩ kc_X16.1 (fun H h => h.rc hj) (fun E => kjx_no) (fun v_50 => ?_)
        refine kj_and (fun e => ?_)
        subst e
        refine kj_if_eq X 59 dJ2_remove_2_53 (by decide) (fun c_53 => ?_) (fun c_53 => ?_)
        · have hne : ad j ≠ a := fun e => by rw [kr_b, if_pos (by simpa using e)] at c_53; exact absurd c_53 (by decide)
          refine kj_iinc (lv' := [_, _, _, _, _]) (w := nI (k + 1)) X dJ2_remove_2_59 (by decide) rfl (by intro w h _; cases h <;> first | rfl | exact kr_cat _) (nI_1 k) rfl ?_
          refine kj_goto X 39 dJ2_remove_2_62 (by decide) (ih (k + 1) (by omega) (fun q hq => ?_))
          by_cases e : q = k
          · rw [e, ha]
            exact fun w => hne (Option.some.inj w).symm
          · exact hn q (by omega)
        · have he2 : ad j = a := by
            by_cases e : ad j = a
            · exact e
            · exact absurd (by rw [kr_b, if_neg (by simpa using e)]) c_53
          have hr' : ad j ∈ z.1 := List.mem_of_getElem? (by rw [ha, he2])
          have e3 : z.1.erase (ad j) = z.1.eraseIdx k := kr_erase_at (by rw [ha, he2]) hn
          refine kj_goto X 67 dJ2_remove_2_56 (by decide) ?_
          refine kj_aload_n X dJ2_remove_2_67 rfl rfl (by first | exact ⟨some _, rfl⟩ | exact ⟨none, rfl⟩ | exact ⟨_, rfl⟩) ?_
          refine kj_aload_n X dJ2_remove_2_68 rfl rfl (by first | exact ⟨some _, rfl⟩ | exact ⟨none, rfl⟩ | exact ⟨_, rfl⟩) ?_
          refine kj_iload X dJ2_remove_2_69 rfl ?_
          refine kj_callV X 2 (ct_J2_fastRemove X.F he hi hlt) (lw_V q986 q988 qs9 q46 q989) ⟨rfl, by decide, by decide, by decide +kernel⟩ dJ2_remove_2_71 rfl rfl (by first | exact Nat.le_of_ble_eq_true rfl | simp [kr_cat, Value.category]) ⟨Nat.le_of_ble_eq_true rfl, Nat.le_of_ble_eq_true rfl⟩ ⟨by dsimp only; omega, by dsimp only; omega⟩ kc_J2.1 (fun H h => h.list hi) (fun E => kjx_no) (fun v_71 => ?_)
          refine kj_and (fun e => ?_)
          subst e
          refine kj_iconst (v := 1) X dJ2_remove_2_74 (by decide) ?_
          exact kj_zret X rfl dJ2_remove_2_75 (by omega) (by omega) (fun H h => ⟨z.2.1 + 1, by simp [kr_b, hr'], by rw [e3]; exact h.S (he.cut hi)⟩)
  refine kj_P (fun H h => h) (loop z.1.length 0 (by omega) (fun q hq => absurd hq (Nat.not_lt_zero q)))
theorem ct_J2_set (hF : kr_F G l) (hi : σ i = some (.inr z)) {k o e : Nat} (hk : z.1[k]? = some o) (hob : kr_obj ad σ e) : kr_T G l yJ2_set (ws_ yJ2_set cJ2_set 4 (Option.some (Jvm.ClassFile.FieldType.object "java/lang/Object"))) 4 200 [.ref (ad i), .int (nI k), .ref e] (kr_S G ad σ) 0 0 (fun v H => v = some (.ref o) ∧ kr_S G ad (kr_up σ i (some (.inr (z.1.set k e, z.2)))) H) kr_no := by
  have hlt : k < z.1.length := (List.getElem?_eq_some_iff.mp hk).1
  refine kr_T.of (by decide +kernel) hF (by simp [Value.category]) (Nat.le_of_ble_eq_true rfl) (fun x hx X => ?_)
  refine kj_pure (fun H h => h.1) (fun he => ?_)
  refine kj_ex (P' := fun bk => kr_SB G ad bk σ) (fun H h => h.2) (fun bk => ?_)
  refine kj_pure (fun H h => h.2) (fun hf => ?_)
  have hz := hf i z hi
  have h0 : z.2.2 ≠ 0 := by omega
  obtain ⟨j, c, fs, g1, g2, g3, g4⟩ := hob
  obtain ⟨C, T, N, g5, g6⟩ := kr_castO c g4
  refine kj_iload_n X dJ2_set_0 rfl rfl ?_
  refine kj_aload_n X dJ2_set_1 rfl rfl (by first | exact ⟨some _, rfl⟩ | exact ⟨none, rfl⟩ | exact ⟨_, rfl⟩) ?_
  refine kj_get X kc_J2 2 (by decide) q114 (Or.inl rfl) dJ2_set_2 (fun H h => h.lo hi) rfl ?_
  refine kj_callS X 2 (ct_J13_checkIndex X.F hlt (by omega)) (lw_S q595 q596 q61 q597) ⟨by decide, by decide, by decide +kernel⟩ dJ2_set_5 rfl rfl (by first | exact Nat.le_of_ble_eq_true rfl | simp [kr_cat, Value.category]) ⟨Nat.le_of_ble_eq_true rfl, Nat.le_of_ble_eq_true rfl⟩ ⟨by dsimp only; omega, by dsimp only; omega⟩ (fun E => kjx_no) (fun v_5 => ?_)
  refine kj_and (fun e => ?_)
  subst e
  refine kj_pop X dJ2_set_8 (by first | rfl | exact kr_cat _) ?_
  refine kj_aload_n X dJ2_set_9 rfl rfl (by first | exact ⟨some _, rfl⟩ | exact ⟨none, rfl⟩ | exact ⟨_, rfl⟩) ?_
  refine kj_iload_n X dJ2_set_10 rfl rfl ?_
  refine kj_callV X 1 (ct_J2_elementData X.F hi hk (by omega) hz.1) (lw_V q601 q602 q603 q46 q604) ⟨rfl, by decide, by decide, by decide +kernel⟩ dJ2_set_11 rfl rfl (by first | exact Nat.le_of_ble_eq_true rfl | simp [kr_cat, Value.category]) ⟨Nat.le_of_ble_eq_true rfl, Nat.le_of_ble_eq_true rfl⟩ ⟨by dsimp only; omega, by dsimp only; omega⟩ kc_J2.1 (fun H h => h.list hi) (fun E => kjx_no) (fun v_11 => ?_)
  refine kj_and (fun e => ?_)
  subst e
  refine kj_astore_n (lv' := [_, _, _, _]) X dJ2_set_14 rfl (by decide) (by intro w h _; cases h <;> first | rfl | exact kr_cat _) (by first | exact ⟨some _, rfl⟩ | exact ⟨none, rfl⟩ | exact ⟨_, rfl⟩) rfl ?_
  refine kj_aload_n X dJ2_set_15 rfl rfl (by first | exact ⟨some _, rfl⟩ | exact ⟨none, rfl⟩ | exact ⟨_, rfl⟩) ?_
  refine kj_get X kc_J2 1 (by decide) q111 (Or.inl rfl) dJ2_set_16 (fun H h => h.lo hi) rfl ?_
  rw [if_neg h0]
  refine kj_iload_n X dJ2_set_19 rfl rfl ?_
  refine kj_aload_n X dJ2_set_20 rfl rfl (by first | exact ⟨some _, rfl⟩ | exact ⟨none, rfl⟩ | exact ⟨_, rfl⟩) ?_
  refine kj_aast (P' := kr_H G (Sum.elim ad bk) (kr_up (kr_exp G σ bk) (.inr i) (some (kr_rw G z.2.2 (fun j => (z.1.set k e)[j]?))))) X 6 rfl g5 (Or.inr g6) dJ2_set_21 (fun H h => h.la hi h0) (fun H h => by have := (h.own g1).1; rwa [g2] at this) (vp_in_nI (N := z.2.2) (by omega) (by omega)) (fun H H1 h a u => by rw [nI_clamp (by omega), kr_fn_set hlt] at a; exact h.1.put (i := .inr i) _ (kr_exp_row hi h0) a u) ?_
  have elen : (z.1.set k e).length = z.1.length := List.length_set
  refine kj_P (P' := kr_S G ad (kr_up σ i (some (.inr (z.1.set k e, z.2))))) (fun H h => ⟨he.upl hi (fun b hb => ?_), bk, kr_SB.fin (z1 := z) (z' := (z.1.set k e, z.2)) hf h0 ⟨by dsimp only; omega, hz.2⟩ rfl (Or.inl ?_) h⟩) ?_
  · rcases List.mem_or_eq_of_mem_set hb with q | q
    · exact he i z hi b q
    · rw [q]; exact ⟨j, c, fs, g1, g2, g3, g4⟩
  · rw [kr_up_id (f := σ) hi]
    dsimp only
    rw [elen]
    funext r
    by_cases q : r = .inl i
    · subst q
      rw [kr_up_s, kr_up_n (by simp), kr_exp_obj hi h0]
    · rw [kr_up_n q]
  · refine kj_aload_n X dJ2_set_22 rfl rfl (by first | exact ⟨some _, rfl⟩ | exact ⟨none, rfl⟩ | exact ⟨_, rfl⟩) ?_
    exact kj_aret X (Or.inl ⟨_, rfl⟩) (by first | exact ⟨some _, rfl⟩ | exact ⟨none, rfl⟩ | exact ⟨_, rfl⟩) dJ2_set_23 (by omega) (by omega) (fun H h => ⟨rfl, h⟩)
end
