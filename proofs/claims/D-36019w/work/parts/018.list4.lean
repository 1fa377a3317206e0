/-! java.util.ArrayList: add at the end, add at a place -/
set_option maxRecDepth 100000
def kr_nc (z : List Nat × Int32 × Nat) : Nat := if z.1.length = z.2.2 then kr_cap z.2.2 else z.2.2
def kr_gc (z : List Nat × Int32 × Nat) : Nat := if z.1.length = z.2.2 then 1 else 0
def kr_gs (z : List Nat × Int32 × Nat) : Nat := if z.1.length = z.2.2 then kr_cap z.2.2 else 0
/-- what adding needs and leaves -/
theorem kr_nc_lt {z : List Nat × Int32 × Nat} (h : z.1.length ≤ z.2.2) : z.1.length < kr_nc z := by
  unfold kr_nc
  have := kr_cap_lt z.2.2
  split <;> omega
theorem kr_nc_le {z : List Nat × Int32 × Nat} (h : z.2.2 ≤ 600) : kr_nc z ≤ 1000 := by
  unfold kr_nc
  have := kr_cap_le h
  split <;> omega
theorem kr_fn_add {xs : List Nat} {e : Nat} : (va_up (fun j => xs[j]?) xs.length (some e) : Nat → Option Nat) = fun j => (xs ++ [e])[j]? := by
  funext j
  show (if j = xs.length then some e else xs[j]?) = (xs ++ [e])[j]?
  by_cases hj : j = xs.length
  · rw [if_pos hj, hj]
    simp
  · rw [if_neg hj]
    by_cases hj2 : j < xs.length
    · rw [List.getElem?_append_left hj2]
    · rw [List.getElem?_eq_none (by omega), List.getElem?_eq_none (by rw [List.length_append, List.length_singleton]; omega)]
/-- va_up, va_cpy as kr_fn_add: a place set; moved up and set; moved down and cleared -/
theorem kr_fn_set {xs : List Nat} {k e : Nat} (hk : k < xs.length) : (va_up (fun j => xs[j]?) k (some e) : Nat → Option Nat) = fun j => (xs.set k e)[j]? := by
  funext j
  show (if j = k then some e else xs[j]?) = (xs.set k e)[j]?
  by_cases hj : j = k
  · rw [if_pos hj, hj, List.getElem?_set_self hk]
  · rw [if_neg hj, List.getElem?_set_ne (Ne.symm hj)]
theorem kr_fn_ins {xs : List Nat} {k e : Nat} (hk : k ≤ xs.length) : (va_up (va_cpy (fun j => xs[j]?) (fun j => xs[j]?) k (k + 1) (xs.length - k)) k (some e) : Nat → Option Nat) = fun j => (xs.insertIdx k e)[j]? := by
  funext j
  show (if j = k then some e else if k + 1 ≤ j ∧ j < k + 1 + (xs.length - k) then xs[k + (j - (k + 1))]? else xs[j]?) = (xs.insertIdx k e)[j]?
  rw [List.getElem?_insertIdx]
  by_cases h1 : j < k
  · rw [if_neg (by omega), if_neg (by omega), if_pos h1]
  · by_cases h2 : j = k
    · rw [if_pos h2, if_neg h1, if_pos h2, if_pos (by omega)]
    · rw [if_neg h2, if_neg h1, if_neg h2]
      by_cases h3 : k + 1 ≤ j ∧ j < k + 1 + (xs.length - k)
      · rw [if_pos h3]
        congr 1
        omega
      · rw [if_neg h3, List.getElem?_eq_none (by omega), List.getElem?_eq_none (by omega)]
theorem kr_fn_del {xs : List Nat} {k : Nat} (hk : k < xs.length) : (va_up (va_cpy (fun j => xs[j]?) (fun j => xs[j]?) (k + 1) k (xs.length - 1 - k)) (xs.length - 1) none : Nat → Option Nat) = fun j => (xs.eraseIdx k)[j]? := by
  funext j
  show (if j = xs.length - 1 then none else if k ≤ j ∧ j < k + (xs.length - 1 - k) then xs[k + 1 + (j - k)]? else xs[j]?) = (xs.eraseIdx k)[j]?
  rw [List.getElem?_eraseIdx]
  by_cases h1 : j < k
  · rw [if_neg (by omega), if_neg (by omega), if_pos h1]
  · rw [if_neg h1]
    by_cases h2 : j = xs.length - 1
    · rw [if_pos h2, List.getElem?_eq_none (by omega)]
    · rw [if_neg h2]
      by_cases h3 : k ≤ j ∧ j < k + (xs.length - 1 - k)
      · rw [if_pos h3]
        congr 1
        omega
      · rw [if_neg h3, List.getElem?_eq_none (by omega), List.getElem?_eq_none (by omega)]
theorem kr_fn_cut {xs : List Nat} {k : Nat} (hk : k + 1 = xs.length) : (va_up (fun j => xs[j]?) k none : Nat → Option Nat) = fun j => (xs.eraseIdx k)[j]? := by
  funext j
  show (if j = k then none else xs[j]?) = (xs.eraseIdx k)[j]?
  rw [List.getElem?_eraseIdx]
  by_cases h1 : j < k
  · rw [if_neg (by omega), if_pos h1]
  · rw [if_neg h1]
    by_cases h2 : j = k
    · rw [if_pos h2, List.getElem?_eq_none (by omega)]
    · rw [if_neg h2, List.getElem?_eq_none (by omega), List.getElem?_eq_none (by omega)]
abbrev kr_rw (G : kr_G) (N : Nat) (f : Nat → Option Nat) : kr_E := .inl (.inl (kg_A G 6, N, .inr (.inr (.inr (.inr f)))))
section
variable {G : kr_G} {l : Launch} {ad bk : kr_Ro → Nat} {σ : kr_Ro → Option kr_AE} {i : kr_Ro} {z : List Nat × Int32 × Nat} {H H1 : Heap} {a : Nat}
theorem kr_SB.hla {τ : kr_Ro ⊕ kr_Ro → Option kr_E} {f : Nat → Option Nat} {N : Nat} (h : kr_H G (Sum.elim ad bk) τ H) (hi : τ (.inr i) = some (.inl (.inl (kg_A G 6, N, .inr (.inr (.inr (.inr f))))))) : kr_own G (bk i) (.inl (kg_A G 6, N, .inr (.inr (.inr (.inr f))))) H := h.own (i := .inr i) hi
theorem kr_lo_ne {bkv : Nat} (h : z.2.2 ≠ 0) : kr_lo G bkv z = .inl (.inr (17, [.int z.2.1, .ref bkv, .int (nI z.1.length)])) := by
  unfold kr_lo
  rw [if_neg h]
/-- the row's place at the end, then the size -/
theorem ct_J2_add_2 (hF : kr_F G l) (hT : kr_tmp ad) (he : kr_elem ad σ) (hi : σ i = some (.inr z)) {e : Nat} (hob : kr_obj ad σ e) (hc : z.2.2 ≤ 600) : kr_T G l yJ2_add_2 (ws_ yJ2_add_2 cJ2_add_2 4 (Option.none : Option Jvm.ClassFile.FieldType)) 6 500 [.ref (ad i), .ref e, .ref (if z.2.2 = 0 then kg_e0 G else bk i), .int (nI z.1.length)] (kr_SB G ad bk σ) (kr_gc z) (kr_gs z) (fun v H => v = none ∧ kr_S G ad (kr_up σ i (some (.inr (z.1 ++ [e], z.2.1, kr_nc z)))) H) kr_no := by
  refine kr_T.of (by decide +kernel) hF (by intro w hw; simp at hw; rcases hw with e | e | e | e <;> subst e <;> rfl) (Nat.le_of_ble_eq_true rfl) (fun x hx X => ?_)
  refine kj_pure (fun H h => h.2) (fun hf => ?_)
  have hz := hf i z hi
  have hnl := kr_nc_lt hz.1
  have hnc := kr_nc_le hc
  have tail : ∀ (bk' : kr_Ro → Nat) (cs ss : Nat), cs ≤ kr_gc z → ss ≤ kr_gs z → kr_J G x 4 (kr_Q G x (kr_gc z) (kr_gs z) (fun v H => v = none ∧ kr_S G ad (kr_up σ i (some (.inr (z.1 ++ [e], z.2.1, kr_nc z)))) H) kr_no) (kr_SB G ad bk' (kr_up σ i (some (.inr (z.1, z.2.1, kr_nc z))))) cs ss 11 [some (.ref (ad i)), some (.ref e), some (.ref (bk' i)), some (.int (nI z.1.length))] [] := by
    intro bk' cs ss h1 h2
    have hi2 : kr_up σ i (some (.inr (z.1, z.2.1, kr_nc z))) i = some (.inr (z.1, z.2.1, kr_nc z)) := kr_up_s
    have h0 : kr_nc z ≠ 0 := by omega
    obtain ⟨j, c, fs, g1, g2, g3, g4⟩ := hob.up (i := i) (e := .inr (z.1, z.2.1, kr_nc z)) (fun c fs q => by rw [hi] at q; cases q)
    obtain ⟨C, T, N, g5, g6⟩ := kr_castO c g4
    refine kj_aload_n X dJ2_add_2_11 rfl rfl (by first | exact ⟨some _, rfl⟩ | exact ⟨none, rfl⟩ | exact ⟨_, rfl⟩) ?_
    refine kj_iload_n X dJ2_add_2_12 rfl rfl ?_
    refine kj_aload_n X dJ2_add_2_13 rfl rfl (by first | exact ⟨some _, rfl⟩ | exact ⟨none, rfl⟩ | exact ⟨_, rfl⟩) ?_
    refine kj_aast (P' := kr_H G (Sum.elim ad bk') (kr_up (kr_exp G (kr_up σ i (some (.inr (z.1, z.2.1, kr_nc z)))) bk') (.inr i) (some (kr_rw G (kr_nc z) (va_up (fun j => z.1[j]?) z.1.length (some e)))))) X 6 rfl g5 (Or.inr g6) dJ2_add_2_14 (fun H h => h.la hi2 h0) (fun H h => by have := (h.own g1).1; rwa [g2] at this) (vp_in_nI (N := kr_nc z) hnl (by omega)) (fun H H1 h a u => by rw [nI_clamp (by omega)] at a; exact h.1.put (i := .inr i) (kr_rw G (kr_nc z) (va_up (fun j => z.1[j]?) z.1.length (some e))) (kr_exp_a hi2 h0) a u) ?_
    refine kj_aload_n X dJ2_add_2_15 rfl rfl (by first | exact ⟨some _, rfl⟩ | exact ⟨none, rfl⟩ | exact ⟨_, rfl⟩) ?_
    refine kj_iload_n X dJ2_add_2_16 rfl rfl ?_
    refine kj_iconst (v := 1) X dJ2_add_2_17 (by decide) ?_
    refine kj_iadd X dJ2_add_2_18 ?_
    rw [nI_1]
    have hlo : kr_up (kr_exp G (kr_up σ i (some (.inr (z.1, z.2.1, kr_nc z)))) bk') (.inr i) (some (kr_rw G (kr_nc z) (va_up (fun j => z.1[j]?) z.1.length (some e)))) (.inl i) = some (.inl (.inr (17, [.int z.2.1, .ref (bk' i), .int (nI z.1.length)]))) := by
      rw [kr_up_n (by simp), kr_exp_l hi2, kr_lo_ne h0]
    refine kj_put (P' := kr_H G (Sum.elim ad bk') (kr_up (kr_up (kr_exp G (kr_up σ i (some (.inr (z.1, z.2.1, kr_nc z)))) bk') (.inr i) (some (kr_rw G (kr_nc z) (va_up (fun j => z.1[j]?) z.1.length (some e))))) (.inl i) (some (.inl (.inr (17, [.int z.2.1, .ref (bk' i), .int (nI (z.1.length + 1))])))))) X kc_J2 2 (by decide) q114 (Or.inl rfl) rfl dJ2_add_2_19 rfl rfl (Nat.le_of_ble_eq_true rfl) (fun H h => h.own (i := .inl i) hlo) (fun H H1 h a u => h.put (i := .inl i) _ hlo a u) ?_
    refine kj_vret X dJ2_add_2_22 h1 h2 (fun H h => ⟨rfl, ?_, bk', kr_SB.two hf h ⟨by simp; omega, hnc⟩ h0 ?_ ?_ (fun r q1 q2 => ?_)⟩)
    · refine he.upl hi (fun b hb => ?_)
      rcases List.mem_append.mp hb with q | q
      · exact he i z hi b q
      · rw [List.mem_singleton.mp q]; exact hob
    · rw [kr_up_s, kr_lo_ne h0]
      simp
    · rw [kr_up_n (by simp), kr_up_s]
      rw [kr_fn_add]
      rfl
    · rw [kr_up_n q1, kr_up_n q2]
      cases r with
      | inl k =>
        have hk : k ≠ i := by simpa using q1
        simp [kr_exp, kr_up_n hk]
      | inr k =>
        have hk : k ≠ i := by simpa using q2
        simp [kr_exp, kr_up_n hk]
  by_cases hfull : z.1.length = z.2.2
  · have e1 : kr_gc z = 1 := if_pos hfull
    have e2 : kr_gs z = kr_cap z.2.2 := if_pos hfull
    have e3 : kr_nc z = kr_cap z.2.2 := if_pos hfull
    have grown : kr_J G x 4 (kr_Q G x (kr_gc z) (kr_gs z) (fun v H => v = none ∧ kr_S G ad (kr_up σ i (some (.inr (z.1 ++ [e], z.2.1, kr_nc z)))) H) kr_no) (kr_SB G ad bk σ) 0 0 6 [some (.ref (ad i)), some (.ref e), some (.ref (if z.2.2 = 0 then kg_e0 G else bk i)), some (.int (nI z.1.length))] [] := by
      refine kj_aload_n X dJ2_add_2_6 rfl rfl (by first | exact ⟨some _, rfl⟩ | exact ⟨none, rfl⟩ | exact ⟨_, rfl⟩) ?_
      refine kj_callV X 0 (ct_J2_grow X.F hT he hi hfull hc) (lw_V q158 q160 qs1 q46 q161) ⟨rfl, by decide, by decide, by decide +kernel⟩ dJ2_add_2_7 rfl rfl (by first | exact Nat.le_of_ble_eq_true rfl | simp [kr_cat, Value.category]) ⟨Nat.le_of_ble_eq_true rfl, Nat.le_of_ble_eq_true rfl⟩ ⟨by dsimp only; omega, by dsimp only; omega⟩ kc_J2.1 (fun H h => h.list hi) (fun E => kjx_no) (fun v_7 => ?_)
      refine kj_open (fun bk' q => ?_)
      subst q
      refine kj_astore_n (lv' := [_, _, _, _]) X dJ2_add_2_10 rfl (by decide) (by intro w h _; cases h <;> first | rfl | exact kr_cat _) (by first | exact ⟨some _, rfl⟩ | exact ⟨none, rfl⟩ | exact ⟨_, rfl⟩) rfl ?_
      have t := tail bk' (0 + 1) (0 + kr_cap z.2.2) (by omega) (by omega)
      rw [e3] at t
      rw [e3]
      exact t
    by_cases h0 : z.2.2 = 0
    · refine kj_iload_n X dJ2_add_2_0 rfl rfl ?_
      refine kj_aload_n X dJ2_add_2_1 rfl rfl (by first | exact ⟨some _, rfl⟩ | exact ⟨none, rfl⟩ | exact ⟨_, rfl⟩) ?_
      rw [if_pos h0] at *
      refine kj_tlen X (kf_e0 X.F) dJ2_add_2_2 ?_
      refine kj_icmp_ne X 11 dJ2_add_2_3 (by decide) (fun c_3 => ?_) (fun c_3 => ?_)
      · exact absurd (by rw [show z.1.length = 0 by omega]; rfl) c_3
      · exact grown
    · refine kj_iload_n X dJ2_add_2_0 rfl rfl ?_
      refine kj_aload_n X dJ2_add_2_1 rfl rfl (by first | exact ⟨some _, rfl⟩ | exact ⟨none, rfl⟩ | exact ⟨_, rfl⟩) ?_
      rw [if_neg h0] at *
      refine kj_alen X 6 rfl dJ2_add_2_2 (fun H h => h.la hi h0) rfl ?_
      refine kj_icmp_ne X 11 dJ2_add_2_3 (by decide) (fun c_3 => ?_) (fun c_3 => ?_)
      · exact absurd (by rw [hfull]; rfl) c_3
      · exact grown
  · have e1 : kr_gc z = 0 := if_neg hfull
    have e2 : kr_gs z = 0 := if_neg hfull
    have e3 : kr_nc z = z.2.2 := if_neg hfull
    have h0 : z.2.2 ≠ 0 := by omega
    refine kj_iload_n X dJ2_add_2_0 rfl rfl ?_
    refine kj_aload_n X dJ2_add_2_1 rfl rfl (by first | exact ⟨some _, rfl⟩ | exact ⟨none, rfl⟩ | exact ⟨_, rfl⟩) ?_
    rw [if_neg h0]
    refine kj_alen X 6 rfl dJ2_add_2_2 (fun H h => h.la hi h0) rfl ?_
    refine kj_icmp_ne X 11 dJ2_add_2_3 (by decide) (fun c_3 => ?_) (fun c_3 => ?_)
    · have t := tail bk 0 0 (by omega) (by omega)
      rw [e3] at t
      have eσ : kr_up σ i (some (.inr (z.1, z.2.1, z.2.2))) = σ := kr_up_id hi
      rw [eσ] at t
      rw [e3]
      exact t
    · exact absurd ((nI_eq (by omega) (by omega)).mp c_3) hfull
theorem ct_J2_add (hF : kr_F G l) (hT : kr_tmp ad) (hi : σ i = some (.inr z)) {e : Nat} (hob : kr_obj ad σ e) (hc : z.2.2 ≤ 600) : kr_T G l yJ2_add (ws_ yJ2_add cJ2_add 2 (Option.some Jvm.ClassFile.FieldType.boolean)) 7 600 [.ref (ad i), .ref e] (kr_S G ad σ) (kr_gc z) (kr_gs z) (fun v H => v = some (.int 1) ∧ kr_S G ad (kr_up σ i (some (.inr (z.1 ++ [e], z.2.1 + 1, kr_nc z)))) H) kr_no := by
  refine kr_T.of (by decide +kernel) hF (by simp [Value.category]) (Nat.le_of_ble_eq_true rfl) (fun x hx X => ?_)
  refine kj_pure (fun H h => h.1) (fun he => ?_)
  refine kj_ex (P' := fun bk => kr_SB G ad bk σ) (fun H h => h.2) (fun bk => ?_)
  have hi2 : kr_up σ i (some (.inr (z.1, z.2.1 + 1, z.2.2))) i = some (.inr (z.1, z.2.1 + 1, z.2.2)) := kr_up_s
  refine kj_aload_n X dJ2_add_0 rfl rfl (by first | exact ⟨some _, rfl⟩ | exact ⟨none, rfl⟩ | exact ⟨_, rfl⟩) ?_
  refine kj_dup X dJ2_add_1 (by first | rfl | exact kr_cat _) ?_
  refine kj_get X kc_J2 0 (by decide) q118 (Or.inr q117) dJ2_add_2 (fun H h => h.lo hi) rfl ?_
  refine kj_iconst (v := 1) X dJ2_add_5 (by decide) ?_
  refine kj_iadd X dJ2_add_6 ?_
  refine kj_put X kc_J2 0 (by decide) q118 (Or.inr q117) rfl dJ2_add_7 (by first | rfl | exact kr_nar _ _ | exact kr_narb _) (by first | rfl | exact kr_fitr _ _ | exact kr_fitb _) (Nat.le_of_ble_eq_true rfl) (fun H h => h.lo hi) (fun H H1 h a u => h.mc hi a u) ?_
  have he2 := he.upl (w := (z.1, z.2.1 + 1, z.2.2)) hi (he i z hi)
  have hob2 := hob.up (i := i) (e := .inr (z.1, z.2.1 + 1, z.2.2)) (fun c fs q => by rw [hi] at q; cases q)
  refine kj_aload_n X dJ2_add_10 rfl rfl (by first | exact ⟨some _, rfl⟩ | exact ⟨none, rfl⟩ | exact ⟨_, rfl⟩) ?_
  refine kj_aload_n X dJ2_add_11 rfl rfl (by first | exact ⟨some _, rfl⟩ | exact ⟨none, rfl⟩ | exact ⟨_, rfl⟩) ?_
  refine kj_aload_n X dJ2_add_12 rfl rfl (by first | exact ⟨some _, rfl⟩ | exact ⟨none, rfl⟩ | exact ⟨_, rfl⟩) ?_
  refine kj_get X kc_J2 1 (by decide) q111 (Or.inl rfl) dJ2_add_13 (fun H h => h.lo hi2) rfl ?_
  refine kj_aload_n X dJ2_add_16 rfl rfl (by first | exact ⟨some _, rfl⟩ | exact ⟨none, rfl⟩ | exact ⟨_, rfl⟩) ?_
  refine kj_get X kc_J2 2 (by decide) q114 (Or.inl rfl) dJ2_add_17 (fun H h => h.lo hi2) rfl ?_
  refine kj_callV X 3 (ct_J2_add_2 X.F hT he2 hi2 hob2 hc) (lw_V q154 q156 qs0 q46 q157) ⟨rfl, by decide, by decide, by decide +kernel⟩ dJ2_add_20 rfl rfl (by first | exact Nat.le_of_ble_eq_true rfl | simp [kr_cat, Value.category]) ⟨Nat.le_of_ble_eq_true rfl, Nat.le_of_ble_eq_true rfl⟩ ⟨by dsimp only [kr_gc]; omega, by dsimp only [kr_gs]; omega⟩ kc_J2.1 (fun H h => h.list hi2) (fun E => kjx_no) (fun v_20 => ?_)
  refine kj_and (fun q => ?_)
  subst q
  rw [kr_up_up]
  refine kj_iconst (v := 1) X dJ2_add_23 (by decide) ?_
  exact kj_zret X rfl dJ2_add_24 (by dsimp only [kr_gc]; omega) (by dsimp only [kr_gs]; omega) (fun H h => ⟨rfl, h⟩)
end
