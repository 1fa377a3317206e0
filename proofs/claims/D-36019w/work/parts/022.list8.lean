/-! java.util.ArrayList: a new list, clear; iterators -/
set_option maxRecDepth 100000
section
variable {G : kr_G} {l : Launch} {ad bk : kr_Ro → Nat} {σ : kr_Ro → Option kr_AE} {i j : kr_Ro} {z : List Nat × Int32 × Nat} {H H1 : Heap} {a : Nat} {fs : List Value}
theorem kr_S.ownL (h : kr_S G ad σ H) {e : va_E} (hi : σ i = some (.inl (.inl e))) : kr_own G (ad i) e H := h.own hi
theorem ct_J0_init (hF : kr_F G l) {P : Heap → Prop} (a : Nat) : kr_T G l yJ0_init (ws_ yJ0_init cJ0_init 1 (Option.none : Option Jvm.ClassFile.FieldType)) 2 40 [.ref a] P 0 0 (fun v H => v = none ∧ P H) kr_no := by
  refine kr_T.of (by decide +kernel) hF (by simp [Value.category]) (Nat.le_of_ble_eq_true rfl) (fun x hx X => ?_)
  refine kj_aload_n X dJ0_init_0 rfl rfl (by first | exact ⟨some _, rfl⟩ | exact ⟨none, rfl⟩ | exact ⟨_, rfl⟩) ?_
  refine kj_objInit X q108 q95 q96 dJ0_init_1 (Nat.le_of_ble_eq_true rfl) (by simp [Value.category, kr_cat]) ?_
  exact kj_vret X dJ0_init_4 (by omega) (by omega) (fun H h => ⟨rfl, h⟩)
theorem ct_J1_init (hF : kr_F G l) {m0 : Int32} {d n : Value} (hi : σ i = some (.inl (.inl (.inr (17, [.int m0, d, n]))))) : kr_T G l yJ1_init (ws_ yJ1_init cJ1_init 1 (Option.none : Option Jvm.ClassFile.FieldType)) 3 100 [.ref (ad i)] (kr_S G ad σ) 0 0 (fun v H => v = none ∧ kr_S G ad (kr_up σ i (some (.inl (.inl (.inr (17, [.int 0, d, n])))))) H) kr_no := by
  refine kr_T.of (by decide +kernel) hF (by simp [Value.category]) (Nat.le_of_ble_eq_true rfl) (fun x hx X => ?_)
  refine kj_aload_n X dJ1_init_0 rfl rfl (by first | exact ⟨some _, rfl⟩ | exact ⟨none, rfl⟩ | exact ⟨_, rfl⟩) ?_
  refine kj_callI X 0 (ct_J0_init X.F (ad i)) q107 q44 q105 q106 rfl ⟨by decide, by decide, by decide +kernel⟩ dJ1_init_1 rfl rfl (by first | exact Nat.le_of_ble_eq_true rfl | simp [kr_cat, Value.category]) ⟨Nat.le_of_ble_eq_true rfl, Nat.le_of_ble_eq_true rfl⟩ ⟨by dsimp only; omega, by dsimp only; omega⟩ (fun E => kjx_no) (fun v_1 => ?_)
  refine kj_and (fun q => ?_)
  subst q
  refine kj_aload_n X dJ1_init_4 rfl rfl (by first | exact ⟨some _, rfl⟩ | exact ⟨none, rfl⟩ | exact ⟨_, rfl⟩) ?_
  refine kj_iconst (v := 0) X dJ1_init_5 (by decide) ?_
  refine kj_put X kc_J2 0 (by decide) q115 (Or.inl rfl) rfl dJ1_init_6 rfl rfl (Nat.le_of_ble_eq_true rfl) (fun H h => h.own hi) (fun H H1 h a u => h.put hi a u) ?_
  exact kj_vret X dJ1_init_9 (by omega) (by omega) (fun H h => ⟨rfl, h⟩)
/-- an object of the class becomes a list -/
theorem kr_S.mkl (h : kr_S G ad σ H) {mc : Int32} (hi : σ i = some (.inl (.inl (.inr (17, [.int mc, .ref (kg_e0 G), .int 0]))))) : kr_S G ad (kr_up σ i (some (.inr ([], mc, 0)))) H := by
  obtain ⟨he, bk, h1, h2⟩ := h
  refine ⟨?_, bk, ?_, h2.upl ⟨by simp, by dsimp only; omega⟩⟩
  · intro k w hk b hb
    by_cases e : k = i
    · rw [e, kr_up_s] at hk
      cases hk
      cases hb
    · rw [kr_up_n e] at hk
      obtain ⟨q, c, fs, g1, g2, g3, g4⟩ := he k w hk b hb
      have hq : q ≠ i := by
        intro e2
        rw [e2, hi] at g1
        cases g1
        omega
      exact ⟨q, c, fs, by rw [kr_up_n hq]; exact g1, g2, g3, g4⟩
  · have e1 : kr_exp G (kr_up σ i (some (.inr ([], mc, 0)))) bk = kr_exp G σ bk := by
      funext r
      cases r with
      | inl k =>
        by_cases e : k = i
        · subst e
          simp [kr_exp, hi, kr_up, kr_lo]
          rfl
        · simp [kr_exp, kr_up, e]
      | inr k =>
        by_cases e : k = i
        · subst e
          simp [kr_exp, hi, kr_up]
        · simp [kr_exp, kr_up, e]
    rw [e1]
    exact h1
theorem ct_J2_init (hF : kr_F G l) {m0 n : Int32} {d : Value} (hn : n = 0) (hi : σ i = some (.inl (.inl (.inr (17, [.int m0, d, .int n]))))) : kr_T G l yJ2_init (ws_ yJ2_init cJ2_init 1 (Option.none : Option Jvm.ClassFile.FieldType)) 4 200 [.ref (ad i)] (kr_S G ad σ) 0 0 (fun v H => v = none ∧ kr_S G ad (kr_up σ i (some (.inr ([], 0, 0)))) H) kr_no := by
  subst hn
  refine kr_T.of (by decide +kernel) hF (by simp [Value.category]) (Nat.le_of_ble_eq_true rfl) (fun x hx X => ?_)
  refine kj_aload_n X dJ2_init_0 rfl rfl (by first | exact ⟨some _, rfl⟩ | exact ⟨none, rfl⟩ | exact ⟨_, rfl⟩) ?_
  refine kj_callI X 0 (ct_J1_init X.F hi) q104 q45 q102 q103 rfl ⟨by decide, by decide, by decide +kernel⟩ dJ2_init_1 rfl rfl (by first | exact Nat.le_of_ble_eq_true rfl | simp [kr_cat, Value.category]) ⟨Nat.le_of_ble_eq_true rfl, Nat.le_of_ble_eq_true rfl⟩ ⟨by dsimp only; omega, by dsimp only; omega⟩ (fun E => kjx_no) (fun v_1 => ?_)
  refine kj_and (fun q => ?_)
  subst q
  refine kj_aload_n X dJ2_init_4 rfl rfl (by first | exact ⟨some _, rfl⟩ | exact ⟨none, rfl⟩ | exact ⟨_, rfl⟩) ?_
  refine kj_gets X (kf_e0 X.F) q109 dJ2_init_5 ?_
  refine kj_put X kc_J2 1 (by decide) q111 (Or.inl rfl) rfl dJ2_init_8 rfl rfl (Nat.le_of_ble_eq_true rfl) (fun H h => h.own kr_up_s) (fun H H1 h a u => h.put kr_up_s a u) ?_
  rw [kr_up_up]
  refine kj_vret X dJ2_init_11 (by omega) (by omega) (fun H h => ⟨rfl, ?_⟩)
  have := h.mkl kr_up_s
  rwa [kr_up_up] at this
theorem ct_J2_clear (hF : kr_F G l) (hi : σ i = some (.inr z)) : kr_T G l yJ2_clear (ws_ yJ2_clear cJ2_clear 4 (Option.none : Option Jvm.ClassFile.FieldType)) 1 50 [.ref (ad i)] (kr_S G ad σ) 0 0 (fun v H => v = none ∧ kr_S G ad (kr_up σ i (some (.inr ([], z.2.1 + 1, z.2.2)))) H) kr_no := by
  refine kr_T.of (by decide +kernel) hF (by simp [Value.category]) (Nat.le_of_ble_eq_true rfl) (fun x hx X => ?_)
  refine kj_pure (fun H h => h.1) (fun he => ?_)
  refine kj_ex (P' := fun bk => kr_SB G ad bk σ) (fun H h => h.2) (fun bk => ?_)
  refine kj_pure (fun H h => h.2) (fun hf => ?_)
  have hz := hf i z hi
  have hi1 : kr_up σ i (some (.inr (z.1, z.2.1 + 1, z.2.2))) i = some (.inr (z.1, z.2.1 + 1, z.2.2)) := kr_up_s
  have he2 : kr_elem ad (kr_up σ i (some (.inr (([] : List Nat), z.2.1 + 1, z.2.2)))) := he.upl hi (fun b hb => by cases hb)
  refine kj_aload_n X dJ2_clear_0 rfl rfl (by first | exact ⟨some _, rfl⟩ | exact ⟨none, rfl⟩ | exact ⟨_, rfl⟩) ?_
  refine kj_dup X dJ2_clear_1 (by first | rfl | exact kr_cat _) ?_
  refine kj_get X kc_J2 0 (by decide) q118 (Or.inr q117) dJ2_clear_2 (fun H h => h.lo hi) rfl ?_
  refine kj_iconst (v := 1) X dJ2_clear_5 (by decide) ?_
  refine kj_iadd X dJ2_clear_6 ?_
  refine kj_put X kc_J2 0 (by decide) q118 (Or.inr q117) rfl dJ2_clear_7 (by first | rfl | exact kr_nar _ _ | exact kr_narb _) (by first | rfl | exact kr_fitr _ _ | exact kr_fitb _) (Nat.le_of_ble_eq_true rfl) (fun H h => h.lo hi) (fun H H1 h a u => h.mc hi a u) ?_
  refine kj_aload_n X dJ2_clear_10 rfl rfl (by first | exact ⟨some _, rfl⟩ | exact ⟨none, rfl⟩ | exact ⟨_, rfl⟩) ?_
  refine kj_get X kc_J2 1 (by decide) q111 (Or.inl rfl) dJ2_clear_11 (fun H h => h.lo hi1) rfl ?_
  refine kj_astore_n (lv' := [_, _, _, _]) X dJ2_clear_14 rfl (by decide) (by intro w h _; cases h <;> first | rfl | exact kr_cat _) (by first | exact ⟨some _, rfl⟩ | exact ⟨none, rfl⟩ | exact ⟨_, rfl⟩) rfl ?_
  refine kj_aload_n X dJ2_clear_15 rfl rfl (by first | exact ⟨some _, rfl⟩ | exact ⟨none, rfl⟩ | exact ⟨_, rfl⟩) ?_
  refine kj_get X kc_J2 2 (by decide) q114 (Or.inl rfl) dJ2_clear_16 (fun H h => h.lo hi1) rfl ?_
  refine kj_istore_n (lv' := [_, _, _, _]) X dJ2_clear_19 rfl (by decide) (by intro w h _; cases h <;> first | rfl | exact kr_cat _) rfl ?_
  refine kj_aload_n X dJ2_clear_20 rfl rfl (by first | exact ⟨some _, rfl⟩ | exact ⟨none, rfl⟩ | exact ⟨_, rfl⟩) ?_
  refine kj_iconst (v := 0) X dJ2_clear_21 (by decide) ?_
  dsimp only
  by_cases h0 : z.2.2 = 0
  · have hnil : z.1 = [] := List.eq_nil_of_length_eq_zero (by omega)
    refine kj_P (P' := kr_SB G ad bk (kr_up σ i (some (.inr (([] : List Nat), z.2.1 + 1, z.2.2))))) (fun H h => by rw [hnil] at h; exact h) ?_
    have hi3 : kr_up σ i (some (.inr (([] : List Nat), z.2.1 + 1, z.2.2))) i = some (.inr (([] : List Nat), z.2.1 + 1, z.2.2)) := kr_up_s
    rw [hnil]
    refine kj_dup_x1 X dJ2_clear_22 (by first | rfl | exact kr_cat _) (by first | rfl | exact kr_cat _) ?_
    refine kj_put X kc_J2 2 (by decide) q114 (Or.inl rfl) rfl dJ2_clear_23 rfl rfl (Nat.le_of_ble_eq_true rfl) (fun H h => h.lo hi3) (fun H H1 h a u => h.mc (mc := z.2.1 + 1) hi3 a u) ?_
    rw [kr_up_up]
    refine kj_istore_n (lv' := [_, _, _, _]) X dJ2_clear_26 rfl (by decide) (by intro w h _; cases h <;> first | rfl | exact kr_cat _) rfl ?_
    refine kj_iload_n X dJ2_clear_27 rfl rfl ?_
    refine kj_iload_n X dJ2_clear_28 rfl rfl ?_
    refine kj_icmp_ge X 42 dJ2_clear_29 (by decide) (fun c_29 => ?_) (fun c_29 => ?_)
    · exact kj_vret X dJ2_clear_42 (by omega) (by omega) (fun H h => ⟨rfl, h.S he2⟩)
    · exact absurd (Int32.le_refl _) c_29
  · rw [if_neg h0]
    refine kj_dup_x1 X dJ2_clear_22 (by first | rfl | exact kr_cat _) (by first | rfl | exact kr_cat _) ?_
    refine kj_put (P' := kr_H G (Sum.elim ad bk) (kr_up (kr_exp G (kr_up σ i (some (.inr (z.1, z.2.1 + 1, z.2.2)))) bk) (.inl i) (some (.inl (.inr (17, [.int (z.2.1 + 1), .ref (bk i), .int 0])))))) X kc_J2 2 (by decide) q114 (Or.inl rfl) rfl dJ2_clear_23 rfl rfl (Nat.le_of_ble_eq_true rfl) (fun H h => h.1.own (i := .inl i) (kr_exp_obj hi1 h0)) (fun H H1 h a u => h.1.put (i := .inl i) _ (kr_exp_obj hi1 h0) a u) ?_
    rw [show (0 : Int32) = nI 0 from rfl]
    refine kj_istore_n (lv' := [_, _, _, _]) X dJ2_clear_26 rfl (by decide) (by intro w h _; cases h <;> first | rfl | exact kr_cat _) rfl ?_
    have hro : kr_up (kr_exp G (kr_up σ i (some (.inr (z.1, z.2.1 + 1, z.2.2)))) bk) (.inl i) (some (.inl (.inr (17, [.int (z.2.1 + 1), .ref (bk i), .int (nI 0)])))) (.inr i) = some (kr_rw G z.2.2 (fun j => z.1[j]?)) := by
      rw [kr_up_n (by simp)]
      exact kr_exp_a (G := G) (bk := bk) (z := (z.1, z.2.1 + 1, z.2.2)) hi1 h0
    have loop : ∀ d k, k + d = z.1.length → kr_J G x 4 (kr_Q G x 0 0 (fun v H => v = none ∧ kr_S G ad (kr_up σ i (some (.inr ([], z.2.1 + 1, z.2.2)))) H) kr_no) (kr_H G (Sum.elim ad bk) (kr_up (kr_up (kr_exp G (kr_up σ i (some (.inr (z.1, z.2.1 + 1, z.2.2)))) bk) (.inl i) (some (.inl (.inr (17, [.int (z.2.1 + 1), .ref (bk i), .int (nI 0)]))))) (.inr i) (some (kr_rw G z.2.2 (fun j => if j < k then none else z.1[j]?))))) 0 0 27 [some (.ref (ad i)), some (.ref (bk i)), some (.int (nI z.1.length)), some (.int (nI k))] [] := by
      intro d
      induction d with
      | zero =>
        intro k hk
        refine kj_iload_n X dJ2_clear_27 rfl rfl ?_
        refine kj_iload_n X dJ2_clear_28 rfl rfl ?_
        refine kj_icmp_ge X 42 dJ2_clear_29 (by decide) (fun c_29 => ?_) (fun c_29 => ?_)
        · have ef : (fun j => if j < k then none else z.1[j]? : Nat → Option Nat) = fun j => ([] : List Nat)[j]? := by
            funext j
            by_cases e : j < k
            · simp [e]
            · rw [if_neg e, List.getElem?_eq_none (by omega)]
              simp
          refine kj_vret X dJ2_clear_42 (by omega) (by omega) (fun H h => ⟨rfl, he2, bk, kr_SB.fin (z1 := (z.1, z.2.1 + 1, z.2.2)) (z' := ([], z.2.1 + 1, z.2.2)) hf h0 ⟨by simp, hz.2⟩ ef (Or.inr rfl) h⟩)
        · exact absurd (nI_le (by omega) (by omega)) c_29
      | succ d ih =>
        intro k hk
        refine kj_iload_n X dJ2_clear_27 rfl rfl ?_
        refine kj_iload_n X dJ2_clear_28 rfl rfl ?_
        refine kj_icmp_ge X 42 dJ2_clear_29 (by decide) (fun c_29 => ?_) (fun c_29 => ?_)
        · exact absurd c_29 (by rw [Int32.not_le]; exact nI_lt (by omega) (by omega))
        · refine kj_aload_n X dJ2_clear_32 rfl rfl (by first | exact ⟨some _, rfl⟩ | exact ⟨none, rfl⟩ | exact ⟨_, rfl⟩) ?_
          refine kj_iload_n X dJ2_clear_33 rfl rfl ?_
          refine kj_null X dJ2_clear_34 ?_
          have ef : va_up (fun j => if j < k then none else z.1[j]?) k none = (fun j => if j < k + 1 then none else z.1[j]?) := by
            funext j
            show (if j = k then none else if j < k then none else z.1[j]?) = if j < k + 1 then none else z.1[j]?
            by_cases e : j = k
            · rw [if_pos e, if_pos (by omega)]
            · by_cases e2 : j < k
              · rw [if_neg e, if_pos e2, if_pos (by omega)]
              · rw [if_neg e, if_neg e2, if_neg (by omega)]
          refine kj_aastN (P' := kr_H G (Sum.elim ad bk) (kr_up (kr_up (kr_exp G (kr_up σ i (some (.inr (z.1, z.2.1 + 1, z.2.2)))) bk) (.inl i) (some (.inl (.inr (17, [.int (z.2.1 + 1), .ref (bk i), .int (nI 0)]))))) (.inr i) (some (kr_rw G z.2.2 (fun j => if j < k + 1 then none else z.1[j]?))))) X 6 rfl dJ2_clear_35 (fun H h => h.own (i := .inr i) kr_up_s) (vp_in_nI (N := z.2.2) (by omega) (by omega)) (fun H H1 h a u => by
            rw [nI_clamp (by omega), ef] at a
            have := h.put (i := .inr i) (kr_rw G z.2.2 (fun j => if j < k + 1 then none else z.1[j]?)) kr_up_s a u
            rwa [kr_up_up] at this) ?_
          refine kj_iinc (lv' := [_, _, _, _]) (w := nI (k + 1)) X dJ2_clear_36 (by decide) rfl (by intro w h _; cases h <;> first | rfl | exact kr_cat _) (nI_1 k) rfl ?_
          exact kj_goto X 27 dJ2_clear_39 (by decide) (ih (k + 1) (by omega))
    refine kj_P (fun H h => ?_) (loop z.1.length 0 (by omega))
    have e0 : (fun j => if j < 0 then none else z.1[j]? : Nat → Option Nat) = fun j => z.1[j]? := by
      funext j
      simp
    rw [e0, kr_up_id (i := Sum.inr i) hro]
    exact h
/-- a thing that can be gone through: a list, or an object of the class that holds nothing -/
def kr_lst (σ : kr_Ro → Option kr_AE) (i : kr_Ro) (xs : List Nat) (mc : Int32) : Prop := (∃ cap, σ i = some (.inr (xs, mc, cap))) ∨ (xs = [] ∧ ∃ d, σ i = some (.inl (.inl (.inr (17, [.int mc, .ref d, .int 0])))))
theorem kr_lst.own {xs : List Nat} {mc : Int32} (h : kr_lst σ i xs mc) (hS : kr_S G ad σ H) : ∃ d, kr_own G (ad i) (.inr (17, [.int mc, .ref d, .int (nI xs.length)])) H := by
  rcases h with ⟨cap, h⟩ | ⟨rfl, d, h⟩
  · obtain ⟨-, bk, h1⟩ := hS
    exact ⟨_, h1.lo h⟩
  · exact ⟨d, hS.own h⟩
theorem kr_lst.up {xs : List Nat} {mc : Int32} (h : kr_lst σ i xs mc) {e : Option kr_AE} (hj : i ≠ j) : kr_lst (kr_up σ j e) i xs mc := by
  unfold kr_lst at *
  rw [kr_up_n hj]
  exact h
/-- an iterator -/
abbrev kr_it (ad : kr_Ro → Nat) (i : kr_Ro) (k last mc : Int32) : kr_AE := .inl (.inl (.inr (18, [.int k, .int last, .int mc, .ref (ad i)])))
theorem ct_J22_init (hF : kr_F G l) {xs : List Nat} {mc : Int32} (hi : kr_lst σ i xs mc) {v0 v1 v2 v3 : Value} (hj : σ j = some (.inl (.inl (.inr (18, [.int 0, v1, v2, v3]))))) : kr_T G l yJ22_init (ws_ yJ22_init cJ22_init 2 (Option.none : Option Jvm.ClassFile.FieldType)) 2 50 [.ref (ad j), .ref (ad i)] (kr_S G ad σ) 0 0 (fun v H => v = none ∧ kr_S G ad (kr_up σ j (some (kr_it ad i 0 (-1) mc))) H) kr_no := by
  have hij : i ≠ j := by
    intro e
    rw [e] at hi
    rcases hi with ⟨cap, h⟩ | ⟨-, d, h⟩
    · rw [h] at hj; cases hj
    · rw [h] at hj
      cases hj
  refine kr_T.of (by decide +kernel) hF (by simp [Value.category]) (Nat.le_of_ble_eq_true rfl) (fun x hx X => ?_)
  refine kj_aload_n X dJ22_init_0 rfl rfl (by first | exact ⟨some _, rfl⟩ | exact ⟨none, rfl⟩ | exact ⟨_, rfl⟩) ?_
  refine kj_aload_n X dJ22_init_1 rfl rfl (by first | exact ⟨some _, rfl⟩ | exact ⟨none, rfl⟩ | exact ⟨_, rfl⟩) ?_
  refine kj_putF X kc_J22 3 (by decide) q279 rfl rfl rfl rfl dJ22_init_2 rfl rfl (Nat.le_of_ble_eq_true rfl) (fun H h => h.own hj) (fun H H1 h a u => h.put hj a u) ?_
  refine kj_aload_n X dJ22_init_5 rfl rfl (by first | exact ⟨some _, rfl⟩ | exact ⟨none, rfl⟩ | exact ⟨_, rfl⟩) ?_
  refine kj_objInit X q275 q95 q96 dJ22_init_6 (Nat.le_of_ble_eq_true rfl) (by simp [Value.category, kr_cat]) ?_
  refine kj_aload_n X dJ22_init_9 rfl rfl (by first | exact ⟨some _, rfl⟩ | exact ⟨none, rfl⟩ | exact ⟨_, rfl⟩) ?_
  refine kj_iconst (v := -1) X dJ22_init_10 (by decide) ?_
  refine kj_put X kc_J22 1 (by decide) q277 (Or.inl rfl) rfl dJ22_init_11 rfl rfl (Nat.le_of_ble_eq_true rfl) (fun H h => h.own kr_up_s) (fun H H1 h a u => h.put kr_up_s a u) ?_
  rw [kr_up_up]
  refine kj_aload_n X dJ22_init_14 rfl rfl (by first | exact ⟨some _, rfl⟩ | exact ⟨none, rfl⟩ | exact ⟨_, rfl⟩) ?_
  refine kj_aload_n X dJ22_init_15 rfl rfl (by first | exact ⟨some _, rfl⟩ | exact ⟨none, rfl⟩ | exact ⟨_, rfl⟩) ?_
  refine kj_get X kc_J22 3 (by decide) q279 (Or.inl rfl) dJ22_init_16 (fun H h => h.own kr_up_s) rfl ?_
  refine kj_ex (P' := fun d H => kr_own G (ad i) (.inr (17, [.int mc, .ref d, .int (nI xs.length)])) H ∧ kr_S G ad (kr_up σ j (some (.inl (.inl (.inr (18, (([.int 0, v1, v2, v3] : List Value).set 3 (.ref (ad i))).set 1 (.int (-1)))))))) H) (fun H h => by obtain ⟨d, hd⟩ := (hi.up (e := some (.inl (.inl (.inr (18, (([.int 0, v1, v2, v3] : List Value).set 3 (.ref (ad i))).set 1 (.int (-1))))))) hij).own h; exact ⟨d, hd, h⟩) (fun d => ?_)
  refine kj_get X kc_J2 0 (by decide) q116 (Or.inr q117) dJ22_init_19 (fun H h => h.1) rfl ?_
  refine kj_put X kc_J22 2 (by decide) q278 (Or.inl rfl) rfl dJ22_init_22 rfl rfl (Nat.le_of_ble_eq_true rfl) (fun H h => h.2.own kr_up_s) (fun H H1 h a u => h.2.put kr_up_s a u) ?_
  rw [kr_up_up]
  exact kj_vret X dJ22_init_25 (by omega) (by omega) (fun H h => ⟨rfl, h⟩)
theorem ct_J2_iterator (hF : kr_F G l) (hT : kr_tmp ad) {xs : List Nat} {mc : Int32} (hi : kr_lst σ i xs mc) : kr_T G l yJ2_iterator (ws_ yJ2_iterator cJ2_iterator 1 (Option.some (Jvm.ClassFile.FieldType.object "java/util/Iterator"))) 3 100 [.ref (ad i)] (kr_S G ad σ) 1 4 (fun v H => ∃ q, (v = some (.ref q) ∧ σ (40, q) = none) ∧ kr_S G ad (kr_up σ (40, q) (some (kr_it ad i 0 (-1) mc))) H) kr_no := by
  refine kr_T.of (by decide +kernel) hF (by simp [Value.category]) (Nat.le_of_ble_eq_true rfl) (fun x hx X => ?_)
  refine kj_new (Pn := fun q H => σ (40, q) = none ∧ kr_S G ad (kr_up σ (40, q) (some (.inl (.inl (.inr (18, [.int 0, .int 0, .int 0, .null])))))) H) (fs := [.int 0, .int 0, .int 0, .null]) X kc_J22 q270 q271 q81 (fun j hj => by rcases (show j = 0 ∨ j = 1 ∨ j = 2 ∨ j = 3 by omega) with rfl | rfl | rfl | rfl <;> rfl) dJ2_iterator_0 (by dsimp only; omega) (by dsimp only; omega) (fun H H1 h ho a u => ⟨h.free (hT _).1, h.new (i := (40, H.size)) (h.free (hT _).1) (fun _ _ => rfl) (hT _).1 a ho u⟩) (fun q => ?_)
  refine kj_and (fun hq => ?_)
  have hiq : i ≠ (40, q) := by
    intro e
    rw [e] at hi
    rcases hi with ⟨cap, h⟩ | ⟨-, d, h⟩ <;> rw [hq] at h <;> cases h
  have hi2 := hi.up (e := some (.inl (.inl (.inr (18, [.int 0, .int 0, .int 0, .null]))))) hiq
  have t := ct_J22_init (ad := ad) (i := i) (j := (40, q)) X.F hi2 (v0 := .int 0) kr_up_s
  rw [(hT q).1, kr_up_up] at t
  refine kj_dup X dJ2_iterator_3 (by first | rfl | exact kr_cat _) ?_
  refine kj_aload_n X dJ2_iterator_4 rfl rfl (by first | exact ⟨some _, rfl⟩ | exact ⟨none, rfl⟩ | exact ⟨_, rfl⟩) ?_
  refine kj_callI X 1 (t) q274 q81 q272 q273 rfl ⟨by decide, by decide, by decide +kernel⟩ dJ2_iterator_5 rfl rfl (by first | exact Nat.le_of_ble_eq_true rfl | simp [kr_cat, Value.category]) ⟨Nat.le_of_ble_eq_true rfl, Nat.le_of_ble_eq_true rfl⟩ ⟨by dsimp only; omega, by dsimp only; omega⟩ (fun E => kjx_no) (fun v_5 => ?_)
  refine kj_and (fun e => ?_)
  subst e
  exact kj_aret X (Or.inl ⟨_, rfl⟩) (by first | exact ⟨some _, rfl⟩ | exact ⟨none, rfl⟩ | exact ⟨_, rfl⟩) dJ2_iterator_8 (by omega) (by omega) (fun H h => ⟨q, ⟨rfl, hq⟩, h⟩)
theorem ct_J22_hasNext (hF : kr_F G l) {xs : List Nat} {mc lr : Int32} {k : Nat} (hi : kr_lst σ i xs mc) (hk : k ≤ xs.length) (hn : xs.length < 2 ^ 31) (hj : σ j = some (kr_it ad i (nI k) lr mc)) : kr_T G l yJ22_hasNext (ws_ yJ22_hasNext cJ22_hasNext 1 (Option.some Jvm.ClassFile.FieldType.boolean)) 1 20 [.ref (ad j)] (kr_S G ad σ) 0 0 (fun v H => v = some (.int (kr_b (decide (k < xs.length)))) ∧ kr_S G ad σ H) kr_no := by
  refine kr_T.of (by decide +kernel) hF (by simp [Value.category]) (Nat.le_of_ble_eq_true rfl) (fun x hx X => ?_)
  refine kj_ex (P' := fun d H => kr_own G (ad i) (.inr (17, [.int mc, .ref d, .int (nI xs.length)])) H ∧ kr_S G ad σ H) (fun H h => by obtain ⟨d, hd⟩ := hi.own h; exact ⟨d, hd, h⟩) (fun d => ?_)
  refine kj_aload_n X dJ22_hasNext_0 rfl rfl (by first | exact ⟨some _, rfl⟩ | exact ⟨none, rfl⟩ | exact ⟨_, rfl⟩) ?_
  refine kj_get X kc_J22 0 (by decide) q276 (Or.inl rfl) dJ22_hasNext_1 (fun H h => h.2.own hj) rfl ?_
  refine kj_aload_n X dJ22_hasNext_4 rfl rfl (by first | exact ⟨some _, rfl⟩ | exact ⟨none, rfl⟩ | exact ⟨_, rfl⟩) ?_
  refine kj_get X kc_J22 3 (by decide) q279 (Or.inl rfl) dJ22_hasNext_5 (fun H h => h.2.own hj) rfl ?_
  refine kj_getN X kc_J2 2 (by decide) q113 rfl dJ22_hasNext_8 (fun H h => h.1) rfl ?_
  refine kj_icmp_eq X 18 dJ22_hasNext_11 (by decide) (fun c_11 => ?_) (fun c_11 => ?_)
  · have e := (nI_eq (by omega) hn).mp c_11
    refine kj_iconst (v := 0) X dJ22_hasNext_18 (by decide) ?_
    exact kj_zret X rfl dJ22_hasNext_19 (by omega) (by omega) (fun H h => ⟨by simp [kr_b, e], h.2⟩)
  · have e : k < xs.length := by
      rcases Nat.lt_or_ge k xs.length with q | q
      · exact q
      · exact absurd (by rw [show k = xs.length by omega]) c_11
    refine kj_iconst (v := 1) X dJ22_hasNext_14 (by decide) ?_
    refine kj_goto X 19 dJ22_hasNext_15 (by decide) ?_
    exact kj_zret X rfl dJ22_hasNext_19 (by omega) (by omega) (fun H h => ⟨by simp [kr_b, e], h.2⟩)
theorem ct_J22_check (hF : kr_F G l) {xs : List Nat} {mc k lr : Int32} (hi : kr_lst σ i xs mc) (hj : σ j = some (kr_it ad i k lr mc)) : kr_T G l yJ22_checkForComodification (ws_ yJ22_checkForComodification cJ22_checkForComodification 1 (Option.none : Option Jvm.ClassFile.FieldType)) 1 20 [.ref (ad j)] (kr_S G ad σ) 0 0 (fun v H => v = none ∧ kr_S G ad σ H) kr_no := by
  refine kr_T.of (by decide +kernel) hF (by simp [Value.category]) (Nat.le_of_ble_eq_true rfl) (fun x hx X => ?_)
  refine kj_ex (P' := fun d H => kr_own G (ad i) (.inr (17, [.int mc, .ref d, .int (nI xs.length)])) H ∧ kr_S G ad σ H) (fun H h => by obtain ⟨d, hd⟩ := hi.own h; exact ⟨d, hd, h⟩) (fun d => ?_)
  refine kj_aload_n X dJ22_checkForComodification_0 rfl rfl (by first | exact ⟨some _, rfl⟩ | exact ⟨none, rfl⟩ | exact ⟨_, rfl⟩) ?_
  refine kj_get X kc_J22 3 (by decide) q279 (Or.inl rfl) dJ22_checkForComodification_1 (fun H h => h.2.own hj) rfl ?_
  refine kj_get X kc_J2 0 (by decide) q116 (Or.inr q117) dJ22_checkForComodification_4 (fun H h => h.1) rfl ?_
  refine kj_aload_n X dJ22_checkForComodification_7 rfl rfl (by first | exact ⟨some _, rfl⟩ | exact ⟨none, rfl⟩ | exact ⟨_, rfl⟩) ?_
  refine kj_get X kc_J22 2 (by decide) q278 (Or.inl rfl) dJ22_checkForComodification_8 (fun H h => h.2.own hj) rfl ?_
  refine kj_icmp_eq X 22 dJ22_checkForComodification_11 (by decide) (fun c_11 => ?_) (fun c_11 => ?_)
  · exact kj_vret X dJ22_checkForComodification_22 (by omega) (by omega) (fun H h => ⟨rfl, h.2⟩)
  · exact absurd rfl c_11
theorem ct_J22_next (hF : kr_F G l) {xs : List Nat} {mc lr : Int32} {k cap a : Nat} (hi : σ i = some (.inr (xs, mc, cap))) (hk : xs[k]? = some a) (hj : σ j = some (kr_it ad i (nI k) lr mc)) : kr_T G l yJ22_next (ws_ yJ22_next cJ22_next 3 (Option.some (Jvm.ClassFile.FieldType.object "java/lang/Object"))) 2 60 [.ref (ad j)] (kr_S G ad σ) 0 0 (fun v H => v = some (.ref a) ∧ kr_S G ad (kr_up σ j (some (kr_it ad i (nI (k + 1)) (nI k) mc))) H) kr_no := by
  have hlt : k < xs.length := (List.getElem?_eq_some_iff.mp hk).1
  have hij : i ≠ j := by
    intro e
    rw [e, hj] at hi
    cases hi
  refine kr_T.of (by decide +kernel) hF (by simp [Value.category]) (Nat.le_of_ble_eq_true rfl) (fun x hx X => ?_)
  refine kj_aload_n X dJ22_next_0 rfl rfl (by first | exact ⟨some _, rfl⟩ | exact ⟨none, rfl⟩ | exact ⟨_, rfl⟩) ?_
  refine kj_callV X 0 (ct_J22_check X.F (Or.inl ⟨cap, hi⟩) hj) (lw_V q308 q309 q310 q81 q311) ⟨rfl, by decide, by decide, by decide +kernel⟩ dJ22_next_1 rfl rfl (by first | exact Nat.le_of_ble_eq_true rfl | simp [kr_cat, Value.category]) ⟨Nat.le_of_ble_eq_true rfl, Nat.le_of_ble_eq_true rfl⟩ ⟨by dsimp only; omega, by dsimp only; omega⟩ kc_J22.1 (fun H h => h.rc (hj)) (fun E => kjx_no) (fun v_1 => ?_)
  refine kj_and (fun q => ?_)
  subst q
  refine kj_pure (fun H h => h.1) (fun he => ?_)
  refine kj_ex (P' := fun bk => kr_SB G ad bk σ) (fun H h => h.2) (fun bk => ?_)
  refine kj_pure (fun H h => h.2 i _ hi) (fun hz => ?_)
  dsimp only at hz
  have h0 : cap ≠ 0 := by omega
  refine kj_aload_n X dJ22_next_4 rfl rfl (by first | exact ⟨some _, rfl⟩ | exact ⟨none, rfl⟩ | exact ⟨_, rfl⟩) ?_
  refine kj_get X kc_J22 0 (by decide) q276 (Or.inl rfl) dJ22_next_5 (fun H h => h.own hj) rfl ?_
  refine kj_istore_n (lv' := [_, _, _]) X dJ22_next_8 rfl (by decide) (by intro w h _; cases h <;> first | rfl | exact kr_cat _) rfl ?_
  refine kj_iload_n X dJ22_next_9 rfl rfl ?_
  refine kj_aload_n X dJ22_next_10 rfl rfl (by first | exact ⟨some _, rfl⟩ | exact ⟨none, rfl⟩ | exact ⟨_, rfl⟩) ?_
  refine kj_get X kc_J22 3 (by decide) q279 (Or.inl rfl) dJ22_next_11 (fun H h => h.own hj) rfl ?_
  refine kj_getN X kc_J2 2 (by decide) q113 rfl dJ22_next_14 (fun H h => h.lo hi) rfl ?_
  dsimp only
  refine kj_icmp_lt X 28 dJ22_next_17 (by decide) (fun c_17 => ?_) (fun c_17 => ?_)
  rotate_left
  · exact absurd (nI_lt hlt (by omega)) c_17
  refine kj_aload_n X dJ22_next_28 rfl rfl (by first | exact ⟨some _, rfl⟩ | exact ⟨none, rfl⟩ | exact ⟨_, rfl⟩) ?_
  refine kj_get X kc_J22 3 (by decide) q279 (Or.inl rfl) dJ22_next_29 (fun H h => h.own hj) rfl ?_
  refine kj_get X kc_J2 1 (by decide) q112 (Or.inl rfl) dJ22_next_32 (fun H h => h.lo hi) rfl ?_
  dsimp only
  rw [if_neg h0]
  refine kj_astore_n (lv' := [_, _, _]) X dJ22_next_35 rfl (by decide) (by intro w h _; cases h <;> first | rfl | exact kr_cat _) (by first | exact ⟨some _, rfl⟩ | exact ⟨none, rfl⟩ | exact ⟨_, rfl⟩) rfl ?_
  refine kj_iload_n X dJ22_next_36 rfl rfl ?_
  refine kj_aload_n X dJ22_next_37 rfl rfl (by first | exact ⟨some _, rfl⟩ | exact ⟨none, rfl⟩ | exact ⟨_, rfl⟩) ?_
  refine kj_alen X 6 rfl dJ22_next_38 (fun H h => h.la hi h0) rfl ?_
  refine kj_icmp_lt X 50 dJ22_next_39 (by decide) (fun c_39 => ?_) (fun c_39 => ?_)
  rotate_left
  · exact absurd (nI_lt (b := cap) (by omega) (by omega)) c_39
  refine kj_aload_n X dJ22_next_50 rfl rfl (by first | exact ⟨some _, rfl⟩ | exact ⟨none, rfl⟩ | exact ⟨_, rfl⟩) ?_
  refine kj_iload_n X dJ22_next_51 rfl rfl ?_
  refine kj_iconst (v := 1) X dJ22_next_52 (by decide) ?_
  refine kj_iadd X dJ22_next_53 ?_
  rw [nI_1]
  have putB : ∀ (e e' : List Value) (τ : kr_Ro → Option kr_AE) (H H1 : Heap), kr_SB G ad bk τ H → τ j = some (.inl (.inl (.inr (18, e)))) → va_at (kg_D G) kr_cl (ad j, .inr (18, e')) H1 → kr_upd H H1 (ad j) → kr_SB G ad bk (kr_up τ j (some (.inl (.inl (.inr (18, e')))))) H1 := by
    intro e e' τ H H1 h q a u
    refine ⟨?_, h.2.up⟩
    rw [kr_exp_up q]
    exact h.1.put (i := .inl j) _ (kr_exp_c q) a u
  refine kj_put X kc_J22 0 (by decide) q276 (Or.inl rfl) rfl dJ22_next_54 rfl rfl (Nat.le_of_ble_eq_true rfl) (fun H h => h.own hj) (fun H H1 h a u => putB _ _ _ H H1 h hj a u) ?_
  refine kj_aload_n X dJ22_next_57 rfl rfl (by first | exact ⟨some _, rfl⟩ | exact ⟨none, rfl⟩ | exact ⟨_, rfl⟩) ?_
  refine kj_aload_n X dJ22_next_58 rfl rfl (by first | exact ⟨some _, rfl⟩ | exact ⟨none, rfl⟩ | exact ⟨_, rfl⟩) ?_
  refine kj_iload_n X dJ22_next_59 rfl rfl ?_
  refine kj_dup_x1 X dJ22_next_60 (by first | rfl | exact kr_cat _) (by first | rfl | exact kr_cat _) ?_
  refine kj_put X kc_J22 1 (by decide) q277 (Or.inl rfl) rfl dJ22_next_61 rfl rfl (Nat.le_of_ble_eq_true rfl) (fun H h => h.own kr_up_s) (fun H H1 h a u => putB _ _ _ H H1 h kr_up_s a u) ?_
  rw [kr_up_up]
  have hi2 : ∀ e, kr_up σ j e i = some (.inr (xs, mc, cap)) := fun e => by rw [kr_up_n hij]; exact hi
  have hj2 : ∀ e, (∀ (c : Nat) (fs : List Value), σ j = some (.inl (.inl (.inr (c, fs)))) → ∃ fs', (.inl e : kr_AE) = .inl (.inl (.inr (c, fs')))) → kr_elem ad (kr_up σ j (some (.inl e))) := fun e w => he.up w
  refine kj_aald X 6 rfl dJ22_next_64 (fun H h => h.la (hi2 _) h0) (vp_in_nI (N := cap) (by omega) (by omega)) ?_
  dsimp only
  rw [nI_clamp (by omega : k < 2 ^ 31), hk]
  refine kj_aret X (Or.inl ⟨_, rfl⟩) ⟨some a, rfl⟩ dJ22_next_65 (by omega) (by omega) (fun H h => ⟨rfl, h.S (hj2 _ (fun c fs q => ?_))⟩)
  rw [hj] at q
  cases q
  exact ⟨_, rfl⟩
end
