/-! java.util.ArrayList: add at a place, remove, set -/
set_option maxRecDepth 100000
section
variable {G : kr_G} {l : Launch} {ad bk : kr_Ro → Nat} {σ : kr_Ro → Option kr_AE} {i : kr_Ro} {z : List Nat × Int32 × Nat} {H H1 : Heap} {a : Nat}
theorem kr_SB.fin {τ : kr_Ro ⊕ kr_Ro → Option kr_E} {z1 z' : List Nat × Int32 × Nat} {f : Nat → Option Nat} (hf : kr_fit σ) (h0 : z'.2.2 ≠ 0) (hz' : z'.1.length ≤ z'.2.2 ∧ z'.2.2 ≤ 1000) (hfn : f = fun j => z'.1[j]?)
    (hτ : τ = kr_up (kr_up (kr_exp G (kr_up σ i (some (.inr z1))) bk) (.inr i) (some (kr_rw G z'.2.2 f))) (.inl i) (some (.inl (.inr (17, [.int z'.2.1, .ref (bk i), .int (nI z'.1.length)])))) ∨ τ = kr_up (kr_up (kr_exp G (kr_up σ i (some (.inr z1))) bk) (.inl i) (some (.inl (.inr (17, [.int z'.2.1, .ref (bk i), .int (nI z'.1.length)]))))) (.inr i) (some (kr_rw G z'.2.2 f)))
    (h : kr_H G (Sum.elim ad bk) τ H) : kr_SB G ad bk (kr_up σ i (some (.inr z'))) H := by
  subst hfn
  refine kr_SB.two hf h hz' h0 ?_ ?_ (fun r q1 q2 => ?_)
  · rw [kr_lo_ne h0]
    rcases hτ with e | e <;> rw [e]
    · rw [kr_up_s]
    · rw [kr_up_n (by simp), kr_up_s]
  · rcases hτ with e | e <;> rw [e]
    · rw [kr_up_n (by simp), kr_up_s]
      rfl
    · rw [kr_up_s]
      rfl
  · have e1 : τ r = kr_exp G (kr_up σ i (some (.inr z1))) bk r := by
      rcases hτ with e | e <;> rw [e]
      · rw [kr_up_n q1, kr_up_n q2]
      · rw [kr_up_n q2, kr_up_n q1]
    rw [e1]
    cases r with
    | inl k =>
      have hk : k ≠ i := by simpa using q1
      simp [kr_exp, kr_up_n hk]
    | inr k =>
      have hk : k ≠ i := by simpa using q2
      simp [kr_exp, kr_up_n hk]
theorem kr_exp_row (hi : σ i = some (.inr z)) (h0 : z.2.2 ≠ 0) : kr_exp G σ bk (.inr i) = some (kr_rw G z.2.2 (fun j => z.1[j]?)) := kr_exp_a hi h0
theorem kr_exp_obj (hi : σ i = some (.inr z)) (h0 : z.2.2 ≠ 0) : kr_exp G σ bk (.inl i) = some (.inl (.inr (17, [.int z.2.1, .ref (bk i), .int (nI z.1.length)]))) := by rw [kr_exp_l hi, kr_lo_ne h0]
theorem ct_J2_rangeCheckForAdd (hF : kr_F G l) (hi : σ i = some (.inr z)) {k : Nat} (hk : k ≤ z.1.length) (hn : z.1.length < 2 ^ 31) : kr_T G l yJ2_rangeCheckForAdd (ws_ yJ2_rangeCheckForAdd cJ2_rangeCheckForAdd 2 (Option.none : Option Jvm.ClassFile.FieldType)) 1 20 [.ref (ad i), .int (nI k)] (kr_SB G ad bk σ) 0 0 (fun v H => v = none ∧ kr_SB G ad bk σ H) kr_no := by
  refine kr_T.of (by decide +kernel) hF (by simp [Value.category]) (Nat.le_of_ble_eq_true rfl) (fun x hx X => ?_)
  refine kj_iload_n X dJ2_rangeCheckForAdd_0 rfl rfl ?_
  refine kj_aload_n X dJ2_rangeCheckForAdd_1 rfl rfl (by first | exact ⟨some _, rfl⟩ | exact ⟨none, rfl⟩ | exact ⟨_, rfl⟩) ?_
  refine kj_get X kc_J2 2 (by decide) q114 (Or.inl rfl) dJ2_rangeCheckForAdd_2 (fun H h => h.lo hi) rfl ?_
  refine kj_icmp_gt X 12 dJ2_rangeCheckForAdd_5 (by decide) (fun c_5 => ?_) (fun c_5 => ?_)
  · exact absurd c_5 (nI_nlt hk hn)
  · refine kj_iload_n X dJ2_rangeCheckForAdd_8 rfl rfl ?_
    refine kj_if_ge X 25 dJ2_rangeCheckForAdd_9 (by decide) (fun c_9 => ?_) (fun c_9 => ?_)
    · exact kj_vret X dJ2_rangeCheckForAdd_25 (by omega) (by omega) (fun H h => ⟨rfl, h⟩)
    · exact absurd (nI_pos' (by omega)) c_9
theorem ct_J2_add_3 (hF : kr_F G l) (hT : kr_tmp ad) (hi : σ i = some (.inr z)) {k e : Nat} (hk : k ≤ z.1.length) (hob : kr_obj ad σ e) (hc : z.2.2 ≤ 600) : kr_T G l yJ2_add_3 (ws_ yJ2_add_3 cJ2_add_3 5 (Option.none : Option Jvm.ClassFile.FieldType)) 6 600 [.ref (ad i), .int (nI k), .ref e] (kr_S G ad σ) (kr_gc z) (kr_gs z) (fun v H => v = none ∧ kr_S G ad (kr_up σ i (some (.inr (z.1.insertIdx k e, z.2.1 + 1, kr_nc z)))) H) kr_no := by
  refine kr_T.of (by decide +kernel) hF (by simp [Value.category]) (Nat.le_of_ble_eq_true rfl) (fun x hx X => ?_)
  refine kj_pure (fun H h => h.1) (fun he => ?_)
  refine kj_ex (P' := fun bk => kr_SB G ad bk σ) (fun H h => h.2) (fun bk => ?_)
  refine kj_pure (fun H h => h.2) (fun hf => ?_)
  have hz := hf i z hi
  have hnl := kr_nc_lt hz.1
  have hnc := kr_nc_le hc
  have tail : ∀ (bk' : kr_Ro → Nat) (cs ss : Nat), cs ≤ kr_gc z → ss ≤ kr_gs z → kr_J G x 5 (kr_Q G x (kr_gc z) (kr_gs z) (fun v H => v = none ∧ kr_S G ad (kr_up σ i (some (.inr (z.1.insertIdx k e, z.2.1 + 1, kr_nc z)))) H) kr_no) (kr_SB G ad bk' (kr_up σ i (some (.inr (z.1, z.2.1 + 1, kr_nc z))))) cs ss 38 [some (.ref (ad i)), some (.int (nI k)), some (.ref e), some (.int (nI z.1.length)), some (.ref (bk' i))] [] := by
    intro bk' cs ss h1 h2
    have hi2 : kr_up σ i (some (.inr (z.1, z.2.1 + 1, kr_nc z))) i = some (.inr (z.1, z.2.1 + 1, kr_nc z)) := kr_up_s
    have h0 : kr_nc z ≠ 0 := by omega
    have hno : ∀ (c : Nat) (fs : List Value), σ i = some (.inl (.inl (.inr (c, fs)))) → ∃ fs', (.inr (z.1, z.2.1 + 1, kr_nc z) : kr_AE) = .inl (.inl (.inr (c, fs'))) := fun c fs q => by rw [hi] at q; cases q
    obtain ⟨j, c, fs, g1, g2, g3, g4⟩ := hob.up hno
    obtain ⟨C, T, N, g5, g6⟩ := kr_castO c g4
    refine kj_aload X dJ2_add_3_38 rfl (by first | exact ⟨some _, rfl⟩ | exact ⟨none, rfl⟩ | exact ⟨_, rfl⟩) ?_
    refine kj_iload_n X dJ2_add_3_40 rfl rfl ?_
    refine kj_aload X dJ2_add_3_41 rfl (by first | exact ⟨some _, rfl⟩ | exact ⟨none, rfl⟩ | exact ⟨_, rfl⟩) ?_
    refine kj_iload_n X dJ2_add_3_43 rfl rfl ?_
    refine kj_iconst (v := 1) X dJ2_add_3_44 (by decide) ?_
    refine kj_iadd X dJ2_add_3_45 ?_
    refine kj_iload_n X dJ2_add_3_46 rfl rfl ?_
    refine kj_iload_n X dJ2_add_3_47 rfl rfl ?_
    refine kj_isub X dJ2_add_3_48 ?_
    rw [nI_1, pk_sub hk]
    have hcl : (nI (z.1.length - k)).toNatClampNeg = z.1.length - k := nI_clamp (by omega)
    have hck : (nI k).toNatClampNeg = k := nI_clamp (by omega)
    have hck1 : (nI (k + 1)).toNatClampNeg = k + 1 := nI_clamp (by omega)
    refine kj_copy (P' := kr_H G (Sum.elim ad bk') (kr_up (kr_exp G (kr_up σ i (some (.inr (z.1, z.2.1 + 1, kr_nc z)))) bk') (.inr i) (some (kr_rw G (kr_nc z) (va_cpy (fun j => z.1[j]?) (fun j => z.1[j]?) k (k + 1) (z.1.length - k)))))) X 6 6 rfl rfl q961 dJ2_add_3_49 (fun H h => h.la hi2 h0) (fun H h => h.la hi2 h0) (nI_pos (by omega)) (nI_pos (by omega)) (nI_pos (by omega)) (by rw [hcl, hck]; dsimp only; omega) (by rw [hcl, hck1]; dsimp only; omega) (fun H h w hw b hb => ((he i z hi b (List.mem_of_getElem? hb)).up hno).ok h.1) (Nat.le_of_ble_eq_true rfl) (by simp [Value.category]; decide) (fun H H1 h a u => by rw [hcl, hck, hck1] at a; exact h.1.put (i := .inr i) (kr_rw G (kr_nc z) (va_cpy (fun j => z.1[j]?) (fun j => z.1[j]?) k (k + 1) (z.1.length - k))) (kr_exp_row hi2 h0) a u) ?_
    refine kj_aload X dJ2_add_3_52 rfl (by first | exact ⟨some _, rfl⟩ | exact ⟨none, rfl⟩ | exact ⟨_, rfl⟩) ?_
    refine kj_iload_n X dJ2_add_3_54 rfl rfl ?_
    refine kj_aload_n X dJ2_add_3_55 rfl rfl (by first | exact ⟨some _, rfl⟩ | exact ⟨none, rfl⟩ | exact ⟨_, rfl⟩) ?_
    have go : ∀ H, kr_H G (Sum.elim ad bk') (kr_up (kr_exp G (kr_up σ i (some (.inr (z.1, z.2.1 + 1, kr_nc z)))) bk') (.inr i) (some (kr_rw G (kr_nc z) (va_cpy (fun j => z.1[j]?) (fun j => z.1[j]?) k (k + 1) (z.1.length - k))))) H → va_at (kg_D G) kr_cl (e, .inr (c, fs)) H := fun H h => by
      have h5 := (h.own (i := .inl j) (e := .inr (c, fs)) (by rw [kr_up_n (by simp)]; exact kr_exp_c g1)).1
      rw [← g2]
      exact h5
    refine kj_aast (P' := kr_H G (Sum.elim ad bk') (kr_up (kr_exp G (kr_up σ i (some (.inr (z.1, z.2.1 + 1, kr_nc z)))) bk') (.inr i) (some (kr_rw G (kr_nc z) (va_up (va_cpy (fun j => z.1[j]?) (fun j => z.1[j]?) k (k + 1) (z.1.length - k)) k (some e)))))) X 6 rfl g5 (Or.inr g6) dJ2_add_3_56 (fun H h => h.own (i := .inr i) kr_up_s) go (vp_in_nI (N := kr_nc z) (by omega) (by omega)) (fun H H1 h a u => by rw [hck] at a; have := h.put (i := .inr i) (kr_rw G (kr_nc z) (va_up (va_cpy (fun j => z.1[j]?) (fun j => z.1[j]?) k (k + 1) (z.1.length - k)) k (some e))) kr_up_s a u; rwa [kr_up_up] at this) ?_
    rw [kr_fn_ins hk]
    refine kj_aload_n X dJ2_add_3_57 rfl rfl (by first | exact ⟨some _, rfl⟩ | exact ⟨none, rfl⟩ | exact ⟨_, rfl⟩) ?_
    refine kj_iload_n X dJ2_add_3_58 rfl rfl ?_
    refine kj_iconst (v := 1) X dJ2_add_3_59 (by decide) ?_
    refine kj_iadd X dJ2_add_3_60 ?_
    rw [nI_1]
    have hlo : kr_up (kr_exp G (kr_up σ i (some (.inr (z.1, z.2.1 + 1, kr_nc z)))) bk') (.inr i) (some (kr_rw G (kr_nc z) (fun j => (z.1.insertIdx k e)[j]?))) (.inl i) = some (.inl (.inr (17, [.int (z.2.1 + 1), .ref (bk' i), .int (nI z.1.length)]))) := by
      rw [kr_up_n (by simp), kr_exp_obj hi2 h0]
    refine kj_put (P' := kr_H G (Sum.elim ad bk') (kr_up (kr_up (kr_exp G (kr_up σ i (some (.inr (z.1, z.2.1 + 1, kr_nc z)))) bk') (.inr i) (some (kr_rw G (kr_nc z) (fun j => (z.1.insertIdx k e)[j]?)))) (.inl i) (some (.inl (.inr (17, [.int (z.2.1 + 1), .ref (bk' i), .int (nI (z.1.length + 1))])))))) X kc_J2 2 (by decide) q114 (Or.inl rfl) rfl dJ2_add_3_61 rfl rfl (Nat.le_of_ble_eq_true rfl) (fun H h => h.own (i := .inl i) hlo) (fun H H1 h a u => h.put (i := .inl i) _ hlo a u) ?_
    have elen : (z.1.insertIdx k e).length = z.1.length + 1 := by rw [List.length_insertIdx, if_pos hk]
    refine kj_vret X dJ2_add_3_64 h1 h2 (fun H h => ⟨rfl, ?_, bk', kr_SB.fin (z1 := (z.1, z.2.1 + 1, kr_nc z)) (z' := (z.1.insertIdx k e, z.2.1 + 1, kr_nc z)) hf h0 ⟨by dsimp only; omega, hnc⟩ rfl (Or.inl rfl) (by dsimp only; rw [elen]; exact h)⟩)
    refine he.upl hi (fun b hb => ?_)
    rcases (List.mem_insertIdx hk).mp hb with q | q
    · rw [q]; exact hob
    · exact he i z hi b q
  have hi1 : kr_up σ i (some (.inr (z.1, z.2.1 + 1, z.2.2))) i = some (.inr (z.1, z.2.1 + 1, z.2.2)) := kr_up_s
  have he1 := he.upl (w := (z.1, z.2.1 + 1, z.2.2)) hi (he i z hi)
  have start : kr_J G x 5 (kr_Q G x (kr_gc z) (kr_gs z) (fun v H => v = none ∧ kr_S G ad (kr_up σ i (some (.inr (z.1.insertIdx k e, z.2.1 + 1, kr_nc z)))) H) kr_no) (kr_SB G ad bk (kr_up σ i (some (.inr (z.1, z.2.1 + 1, z.2.2))))) 0 0 15 [some (.ref (ad i)), some (.int (nI k)), some (.ref e), none, none] [] := by
    refine kj_aload_n X dJ2_add_3_15 rfl rfl (by first | exact ⟨some _, rfl⟩ | exact ⟨none, rfl⟩ | exact ⟨_, rfl⟩) ?_
    refine kj_get X kc_J2 2 (by decide) q114 (Or.inl rfl) dJ2_add_3_16 (fun H h => h.lo hi1) rfl ?_
    refine kj_dup X dJ2_add_3_19 (by first | rfl | exact kr_cat _) ?_
    refine kj_istore_n (lv' := [_, _, _, _, _]) X dJ2_add_3_20 rfl (by decide) (by intro w h _; cases h <;> first | rfl | exact kr_cat _) rfl ?_
    refine kj_aload_n X dJ2_add_3_21 rfl rfl (by first | exact ⟨some _, rfl⟩ | exact ⟨none, rfl⟩ | exact ⟨_, rfl⟩) ?_
    refine kj_get X kc_J2 1 (by decide) q111 (Or.inl rfl) dJ2_add_3_22 (fun H h => h.lo hi1) rfl ?_
    refine kj_dup X dJ2_add_3_25 (by first | rfl | exact kr_cat _) ?_
    refine kj_astore (lv' := [_, _, _, _, _]) X dJ2_add_3_26 (by decide) (by intro w h _; cases h <;> first | rfl | exact kr_cat _) (by first | exact ⟨some _, rfl⟩ | exact ⟨none, rfl⟩ | exact ⟨_, rfl⟩) rfl ?_
    by_cases hfull : z.1.length = z.2.2
    · have e1 : kr_gc z = 1 := if_pos hfull
      have e2 : kr_gs z = kr_cap z.2.2 := if_pos hfull
      have e3 : kr_nc z = kr_cap z.2.2 := if_pos hfull
      have grown : kr_J G x 5 (kr_Q G x (kr_gc z) (kr_gs z) (fun v H => v = none ∧ kr_S G ad (kr_up σ i (some (.inr (z.1.insertIdx k e, z.2.1 + 1, kr_nc z)))) H) kr_no) (kr_SB G ad bk (kr_up σ i (some (.inr (z.1, z.2.1 + 1, z.2.2))))) 0 0 32 [some (.ref (ad i)), some (.int (nI k)), some (.ref e), some (.int (nI z.1.length)), some (.ref (if z.2.2 = 0 then kg_e0 G else bk i))] [] := by
        refine kj_aload_n X dJ2_add_3_32 rfl rfl (by first | exact ⟨some _, rfl⟩ | exact ⟨none, rfl⟩ | exact ⟨_, rfl⟩) ?_
        refine kj_callV X 0 (ct_J2_grow X.F hT he1 hi1 hfull hc) (lw_V q158 q160 qs1 q46 q161) ⟨rfl, by decide, by decide, by decide +kernel⟩ dJ2_add_3_33 rfl rfl (by first | exact Nat.le_of_ble_eq_true rfl | simp [kr_cat, Value.category]) ⟨Nat.le_of_ble_eq_true rfl, Nat.le_of_ble_eq_true rfl⟩ ⟨by dsimp only; omega, by dsimp only; omega⟩ kc_J2.1 (fun H h => h.list hi1) (fun E => kjx_no) (fun v_33 => ?_)
        refine kj_open (fun bk' q => ?_)
        subst q
        rw [kr_up_up]
        refine kj_astore (lv' := [_, _, _, _, _]) X dJ2_add_3_36 (by decide) (by intro w h _; cases h <;> first | rfl | exact kr_cat _) (by first | exact ⟨some _, rfl⟩ | exact ⟨none, rfl⟩ | exact ⟨_, rfl⟩) rfl ?_
        have t := tail bk' (0 + 1) (0 + kr_cap z.2.2) (by omega) (by omega)
        rw [e3] at t
        rw [e3]
        exact t
      by_cases h0 : z.2.2 = 0
      · dsimp only
        rw [if_pos h0] at *
        refine kj_tlen X (kf_e0 X.F) dJ2_add_3_28 ?_
        refine kj_icmp_ne X 38 dJ2_add_3_29 (by decide) (fun c_29 => ?_) (fun c_29 => ?_)
        · exact absurd (by rw [show z.1.length = 0 by omega]; rfl) c_29
        · exact grown
      · dsimp only
        rw [if_neg h0] at *
        refine kj_alen X 6 rfl dJ2_add_3_28 (fun H h => h.la hi1 h0) rfl ?_
        refine kj_icmp_ne X 38 dJ2_add_3_29 (by decide) (fun c_29 => ?_) (fun c_29 => ?_)
        · exact absurd (by rw [hfull]; rfl) c_29
        · exact grown
    · have e1 : kr_gc z = 0 := if_neg hfull
      have e2 : kr_gs z = 0 := if_neg hfull
      have e3 : kr_nc z = z.2.2 := if_neg hfull
      have h0 : z.2.2 ≠ 0 := by omega
      dsimp only
      rw [if_neg h0]
      refine kj_alen X 6 rfl dJ2_add_3_28 (fun H h => h.la hi1 h0) rfl ?_
      refine kj_icmp_ne X 38 dJ2_add_3_29 (by decide) (fun c_29 => ?_) (fun c_29 => ?_)
      · have t := tail bk 0 0 (by omega) (by omega)
        rw [e3] at t
        rw [e3]
        exact t
      · exact absurd ((nI_eq (a := z.1.length) (b := z.2.2) (by omega) (by omega)).mp c_29) hfull
  refine kj_aload_n X dJ2_add_3_0 rfl rfl (by first | exact ⟨some _, rfl⟩ | exact ⟨none, rfl⟩ | exact ⟨_, rfl⟩) ?_
  refine kj_iload_n X dJ2_add_3_1 rfl rfl ?_
  refine kj_callV X 1 (ct_J2_rangeCheckForAdd X.F hi hk (by omega)) (lw_V q724 q726 qs7 q46 q727) ⟨rfl, by decide, by decide, by decide +kernel⟩ dJ2_add_3_2 rfl rfl (by first | exact Nat.le_of_ble_eq_true rfl | simp [kr_cat, Value.category]) ⟨Nat.le_of_ble_eq_true rfl, Nat.le_of_ble_eq_true rfl⟩ ⟨by dsimp only; omega, by dsimp only; omega⟩ kc_J2.1 (fun H h => h.list hi) (fun E => kjx_no) (fun v_2 => ?_)
  refine kj_and (fun q => ?_)
  subst q
  refine kj_aload_n X dJ2_add_3_5 rfl rfl (by first | exact ⟨some _, rfl⟩ | exact ⟨none, rfl⟩ | exact ⟨_, rfl⟩) ?_
  refine kj_dup X dJ2_add_3_6 (by first | rfl | exact kr_cat _) ?_
  refine kj_get X kc_J2 0 (by decide) q118 (Or.inr q117) dJ2_add_3_7 (fun H h => h.lo hi) rfl ?_
  refine kj_iconst (v := 1) X dJ2_add_3_10 (by decide) ?_
  refine kj_iadd X dJ2_add_3_11 ?_
  refine kj_put X kc_J2 0 (by decide) q118 (Or.inr q117) rfl dJ2_add_3_12 (by first | rfl | exact kr_nar _ _ | exact kr_narb _) (by first | rfl | exact kr_fitr _ _ | exact kr_fitb _) (Nat.le_of_ble_eq_true rfl) (fun H h => h.lo hi) (fun H H1 h a u => h.mc hi a u) ?_
  exact start
end
